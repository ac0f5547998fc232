set_option maxRecDepth 100000
def evS (r : MpS) (E : List Nat) : MpS := (mEp r, mLf r, mLs r, mRn r, mNd r, mCh r, E)
/-- the first k persons have noted what they hold -/
def NtR (Ks : List MkS) (Es : List MeS) (Ps Qs : List MpS) (k : Nat) : Prop := Qs.length = Ps.length ∧ ∀ i r, Ps[i]? = some r → ∃ E, Qs[i]? = some (evS r E) ∧ (i < k → (∀ x, x ∈ E ↔ x ∈ mEv r ∨ helM Ks Es i r x) ∧ E.Nodup) ∧ (k ≤ i → E = mEv r)
theorem NtR_0 (Ks : List MkS) (Es : List MeS) (Ps : List MpS) : NtR Ks Es Ps Ps 0 := ⟨rfl, fun i r h => ⟨mEv r, h, fun z => absurd z (Nat.not_lt_zero i), fun _ => rfl⟩⟩
theorem NtR_s {Ks : List MkS} {Es : List MeS} {Ps Qs : List MpS} {k : Nat} {r : MpS} {E : List Nat} (h : NtR Ks Es Ps Qs k) (hr : Ps[k]? = some r) (h1 : ∀ x, x ∈ E ↔ x ∈ mEv r ∨ helM Ks Es k r x) (h2 : E.Nodup) : NtR Ks Es Ps (Qs.set k (evS r E)) (k + 1) := by
  refine ⟨by rw [List.length_set]; exact h.1, fun i q hq => ?_⟩
  obtain ⟨F, f1, f2, f3⟩ := h.2 i q hq
  rcases Nat.lt_trichotomy i k with z | z | z
  · exact ⟨F, by rw [List.getElem?_set, if_neg (by omega)]; exact f1, fun _ => f2 z, fun y => absurd y (by omega)⟩
  · subst z
    rw [hr] at hq; cases hq
    exact ⟨E, by rw [List.getElem?_set, if_pos rfl, if_pos (get_lt2 f1)], fun _ => ⟨h1, h2⟩, fun y => absurd y (by omega)⟩
  · exact ⟨F, by rw [List.getElem?_set, if_neg (by omega)]; exact f1, fun y => absurd y (by omega), fun _ => f3 (by omega)⟩
theorem mem_tk2 {l : List Nat} {x : Nat} : x ∈ l.take l.length ↔ x ∈ l := by rw [List.take_length]
theorem moX3_heldBy : Mo yX3_heldBy 1 := by
  refine ⟨by decide, by decide, by decide +kernel⟩
theorem ct_X3_notes (g : Gv) (J : Jd g) {m : Nat} {ls : Nat} {lb : Nat} {lk : Nat} {lp : Nat} {lr : Nat} {le : Nat} {lm : Nat} {lo : Nat} {th : Nat} {z : Int32} {bo : Nat} {cm : Nat} {mks : List Nat} {Ks : List MkS} {kcap : Nat} {mps : List Nat} {Ps : List MpS} {pcap : Nat} {Es : List MeS} {ecap : Nat} {n : Nat} {Q : Nat} {w1 : va_W} {w2 : va_W} {w3 : va_W} (hw1 : LoP g (MqP g) lk mks Ks kcap w1) (hw2 : LoP g (MpP g) lp mps Ps pcap w2) (hw3 : LhP g (EpP g) le Es ecap w3) (hpn : Ps.length ≤ 10) (hep : ∀ (i : Nat) (r : MpS) (e : Nat), Ps[i]? = some r → mEp r = some e → e < Es.length) (hq : ∀ (i : Nat) (r : MpS) (k : Nat) (c : McS), Ps[i]? = some r → mCh r k = some c → c.2.2.length ≤ Q) (hbd : ∀ (i : Nat) (r : MpS) (x : Nat), Ps[i]? = some r → helM Ks Es i r x → x < n) (hev : ∀ (i : Nat) (r : MpS), Ps[i]? = some r → (mEv r).Nodup ∧ ∀ x ∈ mEv r, x < n) (hn : n ≤ 1000) : Ct g yX3_notes (ws_ yX3_notes cX3_notes 4 none) 9 (Ps.length * (223 + 8 * Ks.length + 64 * Q + 2 * (capF n / 5))) (Ps.length * (700 + 20 * Ks.length + 160 * Q + 8 * capF n)) [.ref m] [[(m, .inr (12, [.ref ls, .ref lb, .ref lk, .ref lp, .ref lr, .ref le, .ref lm, .ref lo, .int (nI th), .int z, .int (nI bo), .int (nI cm)]))], w1, w2, w3] (fun (rv_ : Option Value) (rL_ : List va_W) => ∃ (Qs : List MpS) (u2 : va_W), rv_ = none ∧ rL_ = [[(m, .inr (12, [.ref ls, .ref lb, .ref lk, .ref lp, .ref lr, .ref le, .ref lm, .ref lo, .int (nI th), .int z, .int (nI bo), .int (nI cm)]))], w1, u2, w3] ∧ LoP g (MpP g) lp mps Qs pcap u2 ∧ (NtR Ks Es Ps Qs Ps.length)) noX := by
  refine Ct.of "KeygroveModel" [some (.ref m), none, none, none] rfl (by decide) rfl (Nat.le_of_ble_eq_true rfl) rfl ?_
  intro κ B E tb
  have hz0 : (Ps.length - 0) * (223 + 8 * Ks.length + 64 * Q + 2 * (capF n / 5)) = Ps.length * (223 + 8 * Ks.length + 64 * Q + 2 * (capF n / 5)) := by rw [Nat.sub_zero]
  have hz1 : (Ps.length - 0) * (700 + 20 * Ks.length + 160 * Q + 8 * capF n) = Ps.length * (700 + 20 * Ks.length + 160 * Q + 8 * capF n) := by rw [Nat.sub_zero]
  refine g_iconst (v := nI 0) (q := 1) B dX3_notes_0 rfl (by decide) ?_
  refine g_istore_n (q := 2) (lv2 := [some (.ref m), some (.int (nI 0)), none, none]) B dX3_notes_1 rfl (Nat.le_of_ble_eq_true rfl) rfl ?_
  have lp2 : ∀ (n2 : Nat) (k : Nat) (Qs : List MpS) (l2_2 : va_W), LoP g (MpP g) lp mps Qs pcap l2_2 → (k ≤ Ps.length) → (NtR Ks Es Ps Qs k) → Ps.length - k = n2 → Go g κ 2 [some (.ref m), some (.int (nI k)), none, none] [] [[(m, .inr (12, [.ref ls, .ref lb, .ref lk, .ref lp, .ref lr, .ref le, .ref lm, .ref lo, .int (nI th), .int z, .int (nI bo), .int (nI cm)]))], w1, l2_2, w3] ((Ps.length - k) * (223 + 8 * Ks.length + 64 * Q + 2 * (capF n / 5))) ((Ps.length - k) * (700 + 20 * Ks.length + 160 * Q + 8 * capF n)) := by
    intro n2
    induction n2 using Nat.strongRecOn with
    | _ n2 ih2 =>
    intro k Qs l2_2 hl2_2 hk hN hmu2
    refine g_iload_n (q := 3) B dX3_notes_2 rfl rfl ?_
    refine g_aload_n (q := 4) B dX3_notes_3 rfl rfl (rv_r _) ?_
    refine g_get (q := 7) B (ci := 12) (k := 0) (j := 3) in_X3 rfl dX3_notes_4 rfl rfl (Nat.le_of_ble_eq_true rfl) q3060 rfl rfl ?_
    obtain ⟨md_1, hli_1, hln_1, hel_1⟩ := LoP.at (Sub.self hl2_2)
    refine g_callV (q := 10) (is := [2]) (kc2 := (Ps.length - k) * (223 + 8 * Ks.length + 64 * Q + 2 * (capF n / 5))) (ks2 := (Ps.length - k) * (700 + 20 * Ks.length + 160 * Q + 8 * capF n)) B [] (ct_J2_size_s g J (p := lp) (xs := mps) (md := md_1) (cap := pcap) (W0 := l2_2)  (hli_1)) dX3_notes_7 rfl (rc_in B (ci := 21) rfl (k := 2) rfl (LoP.hm hl2_2)) rfl q3102 q321 q3665 q81 q323 rfl rfl moJ2_size rfl rfl (by decide) (by decide) (Nat.le_of_ble_eq_true rfl) (by omega) (by omega) (fun _ _ hx => noX_x hx) (fun v7 L1 hp7 => ?_)
    obtain ⟨rfl, rfl⟩ := hp7
    refine (show Go g κ 10 [some (.ref m), some (.int (nI k)), none, none] [.int (nI mps.length), .int (nI k)] [[(m, .inr (12, [.ref ls, .ref lb, .ref lk, .ref lp, .ref lr, .ref le, .ref lm, .ref lo, .int (nI th), .int z, .int (nI bo), .int (nI cm)]))], w1, w3, l2_2] ((Ps.length - k) * (223 + 8 * Ks.length + 64 * Q + 2 * (capF n / 5))) ((Ps.length - k) * (700 + 20 * Ks.length + 160 * Q + 8 * capF n)) from ?_)
    rw [hln_1.1]
    refine (show Go g κ 10 [some (.ref m), some (.int (nI k)), none, none] [.int (nI Qs.length), .int (nI k)] [[(m, .inr (12, [.ref ls, .ref lb, .ref lk, .ref lp, .ref lr, .ref le, .ref lm, .ref lo, .int (nI th), .int z, .int (nI bo), .int (nI cm)]))], w1, w3, l2_2] ((Ps.length - k) * (223 + 8 * Ks.length + 64 * Q + 2 * (capF n / 5))) ((Ps.length - k) * (700 + 20 * Ks.length + 160 * Q + 8 * capF n)) from ?_)
    refine g_icmp_ge (Pp := Ps.length ≤ k) (tgt := 71) (q := 13) B dX3_notes_10 rfl (by decide) (by rw [nI_leI (by have := hN.1; omega) (by omega), hN.1]) (fun c10 => ?_) (fun c10 => ?_)
    · skip
      refine g_pk [0, 0, 1, 0] rfl rfl ?_
      refine (show Go g κ 71 [some (.ref m), some (.int (nI k)), none, none] [] [[(m, .inr (12, [.ref ls, .ref lb, .ref lk, .ref lp, .ref lr, .ref le, .ref lm, .ref lo, .int (nI th), .int z, .int (nI bo), .int (nI cm)]))], w1, l2_2, w3] ((Ps.length - k) * (223 + 8 * Ks.length + 64 * Q + 2 * (capF n / 5))) ((Ps.length - k) * (700 + 20 * Ks.length + 160 * Q + 8 * capF n)) from ?_)
      exact g_vret B E dX3_notes_71 (⟨Qs, _, rfl, rfl, hl2_2, by have e : k = Ps.length := (by omega); rw [e] at hN; exact hN⟩)
    · skip
      obtain ⟨r, hr⟩ := get_ex (xs := Ps) (i := k) (by have := hN.1; omega)
      obtain ⟨E0, hE0, -, hE1⟩ := hN.2 k r hr
      have hE2 : E0 = mEv r := hE1 (Nat.le_refl k)
      subst hE2
      have hes : evS r (mEv r) = r := rfl
      have hQk : Qs[k]? = some r := hE0
      obtain ⟨hvn, hvb⟩ := hev k r hr
      have hm1 := mul_st (M := (223 + 8 * Ks.length + 64 * Q + 2 * (capF n / 5))) (get_lt2 hr)
      have hm2 := mul_st (M := (700 + 20 * Ks.length + 160 * Q + 8 * capF n)) (get_lt2 hr)
      refine g_aload_n (q := 14) B dX3_notes_13 rfl rfl (rv_r _) ?_
      refine g_iload_n (q := 15) B dX3_notes_14 rfl rfl ?_
      refine g_callV (q := 18) (is := [0, 0, 1, 0]) (kc2 := (Ps.length - (k + 1)) * (223 + 8 * Ks.length + 64 * Q + 2 * (capF n / 5)) + (103 + 4 * Ks.length + 32 * Q + capF n / 5)) (ks2 := (Ps.length - (k + 1)) * (700 + 20 * Ks.length + 160 * Q + 8 * capF n) + (370 + 10 * Ks.length + 80 * Q + 4 * capF n)) B [.int (nI k)] (ct_X3_heldBy g J (m := m) (ls := ls) (lb := lb) (lk := lk) (lp := lp) (lr := lr) (le := le) (lm := lm) (lo := lo) (th := th) (z := z) (bo := bo) (cm := cm) (mks := mks) (Ks := Ks) (kcap := kcap) (mps := mps) (Ps := Qs) (pcap := pcap) (Es := Es) (ecap := ecap) (i := k) (r := r) (n := n) (Q := Q) hw1 hl2_2 hw3 (hQk) (by omega) (fun e h => hep k r e hr h) (fun j c h => hq k r j c hr h) (fun x h => hbd k r x hr h) (hn)) dX3_notes_15 rfl (rc_at B (ci := 12) rfl (k := 0) rfl) rfl q3227 q3229 qs55 q85 q3230 rfl rfl moX3_heldBy rfl rfl (by decide) (by decide) (Nat.le_of_ble_eq_true rfl) (by omega) (by omega) (fun _ _ hx => noX_x hx) (fun v15 L1 hp15 => ?_)
      obtain ⟨p15, vs15, u4_15, rfl, rfl, hu4_15, hm_15, hnd_15, hvl_15⟩ := hp15
      refine (show Go g κ 18 [some (.ref m), some (.int (nI k)), none, none] [.ref p15] [[(m, .inr (12, [.ref ls, .ref lb, .ref lk, .ref lp, .ref lr, .ref le, .ref lm, .ref lo, .int (nI th), .int z, .int (nI bo), .int (nI cm)]))], w1, l2_2, w3, u4_15] ((Ps.length - (k + 1)) * (223 + 8 * Ks.length + 64 * Q + 2 * (capF n / 5)) + (103 + 4 * Ks.length + 32 * Q + capF n / 5)) ((Ps.length - (k + 1)) * (700 + 20 * Ks.length + 160 * Q + 8 * capF n) + (370 + 10 * Ks.length + 80 * Q + 4 * capF n)) from ?_)
      have hvn0 := nodup_len n (mEv r) hvn hvb
      have hcv0 := capF_m hvn0
      have hx15 : ∀ x ∈ vs15, x < n := fun x h => hbd k r x hr ((hm_15 x).mp h)
      have hr_2 : LoP g (MpP g) lp mps (Qs.set k (evS r (mEv r))) pcap l2_2 := by rw [hes, set_same hQk]; exact hl2_2
      obtain ⟨ps_3, md_3, hli_3, hln_3, hel_3⟩ := LhP.at (Sub.self hu4_15)
      refine g_callV (q := 21) (is := [4]) (kc2 := ((Ps.length - (k + 1)) * (223 + 8 * Ks.length + 64 * Q + 2 * (capF n / 5)) + (103 + 4 * Ks.length + 32 * Q + capF n / 5)) - 1) (ks2 := ((Ps.length - (k + 1)) * (700 + 20 * Ks.length + 160 * Q + 8 * capF n) + (370 + 10 * Ks.length + 80 * Q + 4 * capF n)) - 4) B [] (ct_J2_iterator_s g J (p := p15) (xs := ps_3) (md := md_3) (cap := (capF vs15.length)) (W0 := u4_15)  (hli_3)) dX3_notes_18 rfl (rc_in B (ci := 21) rfl (k := 4) rfl (LhP.hm hu4_15)) rfl q3232 q805 q3668 q81 q807 rfl rfl moJ2_iterator rfl rfl (by decide) (by decide) (Nat.le_of_ble_eq_true rfl) (by omega) (by omega) (fun _ _ hx => noX_x hx) (fun v18 L1 hp18 => ?_)
      obtain ⟨it18, rfl, rfl⟩ := hp18
      refine (show Go g κ 21 [some (.ref m), some (.int (nI k)), none, none] [.ref it18] [[(m, .inr (12, [.ref ls, .ref lb, .ref lk, .ref lp, .ref lr, .ref le, .ref lm, .ref lo, .int (nI th), .int z, .int (nI bo), .int (nI cm)]))], w1, l2_2, w3, [(it18, .inr (22, [.int (nI 0), .int (-1), .int md_3, .ref p15]))], u4_15] (((Ps.length - (k + 1)) * (223 + 8 * Ks.length + 64 * Q + 2 * (capF n / 5)) + (103 + 4 * Ks.length + 32 * Q + capF n / 5)) - 1) (((Ps.length - (k + 1)) * (700 + 20 * Ks.length + 160 * Q + 8 * capF n) + (370 + 10 * Ks.length + 80 * Q + 4 * capF n)) - 4) from ?_)
      refine g_astore_n (q := 22) (lv2 := [some (.ref m), some (.int (nI k)), some (.ref it18), none]) B dX3_notes_21 rfl (Nat.le_of_ble_eq_true rfl) (rv_r _) rfl ?_
      have lp22 : ∀ (n22 : Nat) (j : Nat) (lr2 : Int32) (E : List Nat) (l22_2 : va_W), LoP g (MpP g) lp mps (Qs.set k (evS r E)) pcap l22_2 → (j ≤ vs15.length) → (∀ x, x ∈ E ↔ x ∈ mEv r ∨ x ∈ vs15.take j) → (E.Nodup) → (∀ x ∈ E, x < n) → vs15.length - j = n22 → Go g κ 22 [some (.ref m), some (.int (nI k)), some (.ref it18), none] [] [[(m, .inr (12, [.ref ls, .ref lb, .ref lk, .ref lp, .ref lr, .ref le, .ref lm, .ref lo, .int (nI th), .int z, .int (nI bo), .int (nI cm)]))], w1, l22_2, w3, [(it18, .inr (22, [.int (nI j), .int lr2, .int md_3, .ref p15]))], u4_15] (2 * (2 * Ks.length + 51 + 16 * Q - j) + (capF n / 5 - capF E.length / 5) + (Ps.length - (k + 1)) * (223 + 8 * Ks.length + 64 * Q + 2 * (capF n / 5))) (5 * (2 * Ks.length + 51 + 16 * Q - j) + 4 * (capF n - capF E.length) + (Ps.length - (k + 1)) * (700 + 20 * Ks.length + 160 * Q + 8 * capF n)) := by
        intro n22
        induction n22 using Nat.strongRecOn with
        | _ n22 ih22 =>
        intro j lr2 E l22_2 hl22_2 hj hEm hEn hEb hmu22
        have hln := nodup_len n E hEn hEb
        have hcn := capF_m hln
        refine g_aload_n (q := 23) B dX3_notes_22 rfl rfl (rv_r _) ?_
        refine g_callF (q := 28) (is := [4, 4]) (kc2 := 2 * (2 * Ks.length + 51 + 16 * Q - j) + (capF n / 5 - capF E.length / 5) + (Ps.length - (k + 1)) * (223 + 8 * Ks.length + 64 * Q + 2 * (capF n / 5))) (ks2 := 5 * (2 * Ks.length + 51 + 16 * Q - j) + 4 * (capF n - capF E.length) + (Ps.length - (k + 1)) * (700 + 20 * Ks.length + 160 * Q + 8 * capF n)) B [] (ct_J19_hasNext_s g J (p := p15) (xs := ps_3) (md := md_3) (cap := (capF vs15.length)) (it := it18) (c := j) (lr := lr2) (W1 := u4_15)  (hli_3) (by have := hln_3.1; omega)) dX3_notes_23 rfl (ci := 22) rfl (rc_at B (ci := 22) rfl (k := 4) rfl) q3234 q940 q942 q104 q944 q938 q937 q943 q941 q939 rfl rfl mojava_util_Iterator_hasNext___Z rfl rfl (by decide) (by decide) (Nat.le_of_ble_eq_true rfl) (by omega) (by omega) (fun _ _ hx => noX_x hx) (fun v23 L1 hp23 => ?_)
        obtain ⟨rfl, rfl⟩ := hp23
        refine (show Go g κ 28 [some (.ref m), some (.int (nI k)), some (.ref it18), none] [.int (nI (if ¬ j = ps_3.length then 1 else 0))] [[(m, .inr (12, [.ref ls, .ref lb, .ref lk, .ref lp, .ref lr, .ref le, .ref lm, .ref lo, .int (nI th), .int z, .int (nI bo), .int (nI cm)]))], w1, l22_2, w3, [(it18, .inr (22, [.int (nI j), .int lr2, .int md_3, .ref p15]))], u4_15] (2 * (2 * Ks.length + 51 + 16 * Q - j) + (capF n / 5 - capF E.length / 5) + (Ps.length - (k + 1)) * (223 + 8 * Ks.length + 64 * Q + 2 * (capF n / 5))) (5 * (2 * Ks.length + 51 + 16 * Q - j) + 4 * (capF n - capF E.length) + (Ps.length - (k + 1)) * (700 + 20 * Ks.length + 160 * Q + 8 * capF n)) from ?_)
        rw [hln_3.1]
        refine (show Go g κ 28 [some (.ref m), some (.int (nI k)), some (.ref it18), none] [.int (nI (if ¬ j = vs15.length then 1 else 0))] [[(m, .inr (12, [.ref ls, .ref lb, .ref lk, .ref lp, .ref lr, .ref le, .ref lm, .ref lo, .int (nI th), .int z, .int (nI bo), .int (nI cm)]))], w1, l22_2, w3, [(it18, .inr (22, [.int (nI j), .int lr2, .int md_3, .ref p15]))], u4_15] (2 * (2 * Ks.length + 51 + 16 * Q - j) + (capF n / 5 - capF E.length / 5) + (Ps.length - (k + 1)) * (223 + 8 * Ks.length + 64 * Q + 2 * (capF n / 5))) (5 * (2 * Ks.length + 51 + 16 * Q - j) + 4 * (capF n - capF E.length) + (Ps.length - (k + 1)) * (700 + 20 * Ks.length + 160 * Q + 8 * capF n)) from ?_)
        refine g_if_eq (tgt := 65) (q := 31) B dX3_notes_28 rfl (by decide) (bo_eq) (fun c28 => ?_) (fun c28 => ?_)
        · skip
          have hEf : ∀ x, x ∈ E ↔ x ∈ mEv r ∨ helM Ks Es k r x := fun x => by rw [hEm x, show j = vs15.length by omega, mem_tk2, hm_15 x]
          have hN9 := NtR_s hN hr hEf hEn
          refine g_iinc (v := nI (k + 1)) (q := 68) (lv2 := [some (.ref m), some (.int (nI (k + 1))), some (.ref it18), none]) B dX3_notes_65 rfl rfl (nI_add _ 1) (Nat.le_of_ble_eq_true rfl) rfl ?_
          refine g_goto (tgt := 2) B dX3_notes_68 (by decide) ?_
          refine g_fg 2 rfl ?_
          refine g_pk [0, 0, 0, 0] rfl rfl ?_
          refine (show Go g κ 2 [some (.ref m), some (.int (nI (k + 1))), none, none] [] [[(m, .inr (12, [.ref ls, .ref lb, .ref lk, .ref lp, .ref lr, .ref le, .ref lm, .ref lo, .int (nI th), .int z, .int (nI bo), .int (nI cm)]))], w1, l22_2, w3] (2 * (2 * Ks.length + 51 + 16 * Q - j) + (capF n / 5 - capF E.length / 5) + (Ps.length - (k + 1)) * (223 + 8 * Ks.length + 64 * Q + 2 * (capF n / 5))) (5 * (2 * Ks.length + 51 + 16 * Q - j) + 4 * (capF n - capF E.length) + (Ps.length - (k + 1)) * (700 + 20 * Ks.length + 160 * Q + 8 * capF n)) from ?_)
          refine g_room (kc2 := (Ps.length - (k + 1)) * (223 + 8 * Ks.length + 64 * Q + 2 * (capF n / 5))) (ks2 := (Ps.length - (k + 1)) * (700 + 20 * Ks.length + 160 * Q + 8 * capF n)) (by omega) (by omega) ?_
          exact ih2 _ (by have := get_lt2 hr; omega) (k + 1) (Qs.set k (evS r E)) l22_2 hl22_2 (by have := get_lt2 hr; omega) (hN9) rfl
        · skip
          have c28 := Classical.not_not.mp c28
          refine g_aload_n (q := 32) B dX3_notes_31 rfl rfl (rv_r _) ?_
          obtain ⟨r32, hr32⟩ := get_ex (xs := vs15) (i := j) (by omega)
          obtain ⟨x32, hx32⟩ := get_ex (xs := ps_3) (i := j) (by have := get_lt2 hr32; have := hln_3.1; omega)
          have hb_4 := Sub.box (hel_3 _ _ _ hx32 hr32)
          refine g_callF (q := 37) (is := [4, 4]) (kc2 := 2 * (2 * Ks.length + 51 + 16 * Q - j) + (capF n / 5 - capF E.length / 5) + (Ps.length - (k + 1)) * (223 + 8 * Ks.length + 64 * Q + 2 * (capF n / 5))) (ks2 := 5 * (2 * Ks.length + 51 + 16 * Q - j) + 4 * (capF n - capF E.length) + (Ps.length - (k + 1)) * (700 + 20 * Ks.length + 160 * Q + 8 * capF n)) B [] (ct_J19_next_s g J (p := p15) (xs := ps_3) (md := md_3) (cap := (capF vs15.length)) (it := it18) (c := j) (lr := lr2) (x := x32) (W1 := u4_15)  (hli_3) (hx32)) dX3_notes_32 rfl (ci := 22) rfl (rc_at B (ci := 22) rfl (k := 4) rfl) q3236 q967 q969 q104 q971 q966 q965 q970 q968 q939 rfl rfl mojava_util_Iterator_next___Ljava_lang_Object_ rfl rfl (by decide) (by decide) (Nat.le_of_ble_eq_true rfl) (by omega) (by omega) (fun _ _ hx => noX_x hx) (fun v32 L1 hp32 => ?_)
          obtain ⟨rfl, rfl⟩ := hp32
          refine (show Go g κ 37 [some (.ref m), some (.int (nI k)), some (.ref it18), none] [.ref x32] [[(m, .inr (12, [.ref ls, .ref lb, .ref lk, .ref lp, .ref lr, .ref le, .ref lm, .ref lo, .int (nI th), .int z, .int (nI bo), .int (nI cm)]))], w1, l22_2, w3, [(it18, .inr (22, [.int (nI (j + 1)), .int (nI j), .int md_3, .ref p15]))], u4_15] (2 * (2 * Ks.length + 51 + 16 * Q - j) + (capF n / 5 - capF E.length / 5) + (Ps.length - (k + 1)) * (223 + 8 * Ks.length + 64 * Q + 2 * (capF n / 5))) (5 * (2 * Ks.length + 51 + 16 * Q - j) + 4 * (capF n - capF E.length) + (Ps.length - (k + 1)) * (700 + 20 * Ks.length + 160 * Q + 8 * capF n)) from ?_)
          refine g_castRS (ci := 35) (q := 40) B rfl (rc_bxat B J (k := 5) rfl hb_4) dX3_notes_37 rfl q3240 ?_
          refine g_callV (q := 43) (is := [5]) (kc2 := 2 * (2 * Ks.length + 51 + 16 * Q - j) + (capF n / 5 - capF E.length / 5) + (Ps.length - (k + 1)) * (223 + 8 * Ks.length + 64 * Q + 2 * (capF n / 5))) (ks2 := 5 * (2 * Ks.length + 51 + 16 * Q - j) + 4 * (capF n - capF E.length) + (Ps.length - (k + 1)) * (700 + 20 * Ks.length + 160 * Q + 8 * capF n)) B [] (ct_J26_intValue_b g J (a := x32) (v := nI r32) (wb := u4_15)  (hb_4)) dX3_notes_40 rfl (rc_bxat B J (k := 5) rfl hb_4) rfl q3241 q1052 q1053 q111 q1054 rfl rfl moJ26_intValue rfl rfl (by decide) (by decide) (Nat.le_of_ble_eq_true rfl) (by omega) (by omega) (fun _ _ hx => noX_x hx) (fun v40 L1 hp40 => ?_)
          obtain ⟨rfl, rfl⟩ := hp40
          refine (show Go g κ 43 [some (.ref m), some (.int (nI k)), some (.ref it18), none] [.int (nI r32)] [[(m, .inr (12, [.ref ls, .ref lb, .ref lk, .ref lp, .ref lr, .ref le, .ref lm, .ref lo, .int (nI th), .int z, .int (nI bo), .int (nI cm)]))], w1, l22_2, w3, [(it18, .inr (22, [.int (nI (j + 1)), .int (nI j), .int md_3, .ref p15]))], u4_15] (2 * (2 * Ks.length + 51 + 16 * Q - j) + (capF n / 5 - capF E.length / 5) + (Ps.length - (k + 1)) * (223 + 8 * Ks.length + 64 * Q + 2 * (capF n / 5))) (5 * (2 * Ks.length + 51 + 16 * Q - j) + 4 * (capF n - capF E.length) + (Ps.length - (k + 1)) * (700 + 20 * Ks.length + 160 * Q + 8 * capF n)) from ?_)
          refine g_istore_n (q := 44) (lv2 := [some (.ref m), some (.int (nI k)), some (.ref it18), some (.int (nI r32))]) B dX3_notes_43 rfl (Nat.le_of_ble_eq_true rfl) rfl ?_
          have hQe : (Qs.set k (evS r E))[k]? = some (evS r E) := set_at hQk
          have hrl := get_lt2 hr32
          have hr9 := hx15 r32 (List.mem_of_getElem? hr32)
          have hd9 := nd_putL (some r32) hEn
          have hb9 : ∀ x ∈ putL E (some r32), x < n := fun x hx => ((mem_putL _ _ x).mp hx).elim (hEb x) (fun e => by cases e; exact hr9)
          have hl9 := nodup_len n _ hd9 hb9
          have hc9 := capF_m hl9
          have hl8 := putL_len E (some r32)
          have hc8 := capF_m hl8.1
          refine g_aload_n (q := 45) B dX3_notes_44 rfl rfl (rv_r _) ?_
          refine g_get (q := 48) B (ci := 12) (k := 0) (j := 3) in_X3 rfl dX3_notes_45 rfl rfl (Nat.le_of_ble_eq_true rfl) q3060 rfl rfl ?_
          refine g_iload_n (q := 49) B dX3_notes_48 rfl rfl ?_
          obtain ⟨md_5, hli_5, hln_5, hel_5⟩ := LoP.at (Sub.self hl22_2)
          obtain ⟨x49, hx49⟩ := get_ex (xs := mps) (i := k) (by have := get_lt2 (show (Qs.set k (evS r E))[k]? = some (evS r E) from hQe); have := hln_5.1; omega)
          have hE_6 := hel_5 _ _ _ hx49 (show (Qs.set k (evS r E))[k]? = some (evS r E) from hQe)
          refine g_callV (q := 52) (is := [2]) (kc2 := 2 * (2 * Ks.length + 51 + 16 * Q - j) + (capF n / 5 - capF E.length / 5) + (Ps.length - (k + 1)) * (223 + 8 * Ks.length + 64 * Q + 2 * (capF n / 5))) (ks2 := 5 * (2 * Ks.length + 51 + 16 * Q - j) + 4 * (capF n - capF E.length) + (Ps.length - (k + 1)) * (700 + 20 * Ks.length + 160 * Q + 8 * capF n)) B [.int (nI k)] (ct_J2_get_s g J (p := lp) (xs := mps) (md := md_5) (cap := pcap) (i := k) (x := x49) (W0 := l22_2)  (hli_5) (hx49)) dX3_notes_49 rfl (rc_in B (ci := 21) rfl (k := 2) rfl (LoP.hm hl22_2)) rfl q3231 q1095 q3667 q81 q1097 rfl rfl moJ2_get rfl rfl (by decide) (by decide) (Nat.le_of_ble_eq_true rfl) (by omega) (by omega) (fun _ _ hx => noX_x hx) (fun v49 L1 hp49 => ?_)
          obtain ⟨rfl, rfl⟩ := hp49
          refine (show Go g κ 52 [some (.ref m), some (.int (nI k)), some (.ref it18), some (.int (nI r32))] [.ref x49] [[(m, .inr (12, [.ref ls, .ref lb, .ref lk, .ref lp, .ref lr, .ref le, .ref lm, .ref lo, .int (nI th), .int z, .int (nI bo), .int (nI cm)]))], w1, w3, [(it18, .inr (22, [.int (nI (j + 1)), .int (nI j), .int md_3, .ref p15]))], u4_15, l22_2] (2 * (2 * Ks.length + 51 + 16 * Q - j) + (capF n / 5 - capF E.length / 5) + (Ps.length - (k + 1)) * (223 + 8 * Ks.length + 64 * Q + 2 * (capF n / 5))) (5 * (2 * Ks.length + 51 + 16 * Q - j) + 4 * (capF n - capF E.length) + (Ps.length - (k + 1)) * (700 + 20 * Ks.length + 160 * Q + 8 * capF n)) from ?_)
          refine g_castRS (ci := 13) (q := 55) B rfl (rc_in B (ci := 13) rfl (k := 5) rfl (Sub.hm (hE_6) fun _ z => MpP.hm z)) dX3_notes_52 rfl q3107 ?_
          obtain ⟨lu1_o, lwi_o, lu2_o, hlwi_o, hlcl_o, hle_o⟩ := LoP.opn hl22_2 hx49 hQe
          refine g_open 5 rfl hle_o rfl ?_
          refine (show Go g κ 55 [some (.ref m), some (.int (nI k)), some (.ref it18), some (.int (nI r32))] [.ref x49] [[(m, .inr (12, [.ref ls, .ref lb, .ref lk, .ref lp, .ref lr, .ref le, .ref lm, .ref lo, .int (nI th), .int z, .int (nI bo), .int (nI cm)]))], w1, w3, [(it18, .inr (22, [.int (nI (j + 1)), .int (nI j), .int md_3, .ref p15]))], u4_15, lu1_o, lwi_o, lu2_o] (2 * (2 * Ks.length + 51 + 16 * Q - j) + (capF n / 5 - capF E.length / 5) + (Ps.length - (k + 1)) * (223 + 8 * Ks.length + 64 * Q + 2 * (capF n / 5))) (5 * (2 * Ks.length + 51 + 16 * Q - j) + 4 * (capF n - capF E.length) + (Ps.length - (k + 1)) * (700 + 20 * Ks.length + 160 * Q + 8 * capF n)) from ?_)
          obtain ⟨nd_o, ch_o, ev_o, cv_o, fn_o, fc_o, v0_o, v1_o, hM_o, hfn_o, hoc_o, hcv_o, hv0_o, hv1_o, rfl⟩ := hlwi_o
          refine g_open 6 rfl rfl rfl ?_
          refine (show Go g κ 55 [some (.ref m), some (.int (nI k)), some (.ref it18), some (.int (nI r32))] [.ref x49] [[(m, .inr (12, [.ref ls, .ref lb, .ref lk, .ref lp, .ref lr, .ref le, .ref lm, .ref lo, .int (nI th), .int z, .int (nI bo), .int (nI cm)]))], w1, w3, [(it18, .inr (22, [.int (nI (j + 1)), .int (nI j), .int md_3, .ref p15]))], u4_15, lu1_o, lu2_o, [(x49, .inr (13, [.int (oI (mEp (evS r E))), .int (nI (mLf (evS r E))), .int (nI (mLs (evS r E))), .int (oI (mRn (evS r E))), .ref nd_o, .ref ch_o, .ref ev_o]))], [(nd_o, .inl (g.2.1 0, 31, .inl fn_o))], [(ch_o, .inl (g.2.1 5, 16, .inr (.inr (.inr (.inr fc_o)))))], v0_o, v1_o] (2 * (2 * Ks.length + 51 + 16 * Q - j) + (capF n / 5 - capF E.length / 5) + (Ps.length - (k + 1)) * (223 + 8 * Ks.length + 64 * Q + 2 * (capF n / 5))) (5 * (2 * Ks.length + 51 + 16 * Q - j) + 4 * (capF n - capF E.length) + (Ps.length - (k + 1)) * (700 + 20 * Ks.length + 160 * Q + 8 * capF n)) from ?_)
          refine g_getN (q := 58) B (ci := 13) (k := 7) (j := 6) in_X5 rfl dX3_notes_55 rfl rfl (Nat.le_of_ble_eq_true rfl) q3128 rfl rfl ?_
          refine g_iload_n (q := 59) B dX3_notes_58 rfl rfl ?_
          have hr_7 : LhP g (BxE g) ev_o E (capF E.length) v1_o := hcv_o ▸ hv1_o
          refine g_callS (q := 62) (is := [11]) (kc2 := 2 * (2 * Ks.length + 51 + 16 * Q - (j + 1)) + (capF n / 5 - capF (putL E (some r32)).length / 5) + (Ps.length - (k + 1)) * (223 + 8 * Ks.length + 64 * Q + 2 * (capF n / 5))) (ks2 := 5 * (2 * Ks.length + 51 + 16 * Q - (j + 1)) + 4 * (capF n - capF (putL E (some r32)).length) + (Ps.length - (k + 1)) * (700 + 20 * Ks.length + 160 * Q + 8 * capF n)) B [.ref ev_o, .int (nI r32)] (ct_X3_puts g J (p := ev_o) (vs := E) (o := (some r32)) hr_7 (fun n_ e_ => by cases e_; omega) (fun x hx => by have := hEb x hx; omega) (by omega)) dX3_notes_59 rfl q3237 q3238 q85 q3239 rfl rfl moX3_puts rfl rfl (by decide) (by decide) (Nat.le_of_ble_eq_true rfl) (by omega) (by omega) (fun _ _ hx => noX_x hx) (fun v59 L1 hp59 => ?_)
          obtain ⟨u0_59, rfl, rfl, hu0_59⟩ := hp59
          refine (show Go g κ 62 [some (.ref m), some (.int (nI k)), some (.ref it18), some (.int (nI r32))] [] [[(m, .inr (12, [.ref ls, .ref lb, .ref lk, .ref lp, .ref lr, .ref le, .ref lm, .ref lo, .int (nI th), .int z, .int (nI bo), .int (nI cm)]))], w1, w3, [(it18, .inr (22, [.int (nI (j + 1)), .int (nI j), .int md_3, .ref p15]))], u4_15, lu1_o, lu2_o, [(x49, .inr (13, [.int (oI (mEp (evS r E))), .int (nI (mLf (evS r E))), .int (nI (mLs (evS r E))), .int (oI (mRn (evS r E))), .ref nd_o, .ref ch_o, .ref ev_o]))], [(nd_o, .inl (g.2.1 0, 31, .inl fn_o))], [(ch_o, .inl (g.2.1 5, 16, .inr (.inr (.inr (.inr fc_o)))))], v0_o, u0_59] (2 * (2 * Ks.length + 51 + 16 * Q - (j + 1)) + (capF n / 5 - capF (putL E (some r32)).length / 5) + (Ps.length - (k + 1)) * (223 + 8 * Ks.length + 64 * Q + 2 * (capF n / 5))) (5 * (2 * Ks.length + 51 + 16 * Q - (j + 1)) + 4 * (capF n - capF (putL E (some r32)).length) + (Ps.length - (k + 1)) * (700 + 20 * Ks.length + 160 * Q + 8 * capF n)) from ?_)
          obtain ⟨wc_8, ewc_8⟩ : ∃ w : va_W, w = ([[(x49, .inr (13, [.int (oI (mEp (evS r E))), .int (nI (mLf (evS r E))), .int (nI (mLs (evS r E))), .int (oI (mRn (evS r E))), .ref nd_o, .ref ch_o, .ref ev_o]))], [(nd_o, .inl (g.2.1 0, 31, .inl fn_o))], [(ch_o, .inl (g.2.1 5, 16, .inr (.inr (.inr (.inr fc_o)))))], v0_o, u0_59] : List va_W).flatten := ⟨_, rfl⟩
          have hwc_8 : MpP g x49 (evS r (putL E (some r32))) wc_8 := by
            rw [ewc_8]
            exact ⟨nd_o, ch_o, ev_o, (capF (putL E (some r32)).length), fn_o, fc_o, _, _, (by obtain ⟨m1, m2, m3, m4, m5, m6, m7, m8⟩ := hM_o; exact ⟨m1, m2, m3, m4, m5, m6, (show (putL E (some r32)).length ≤ 1000 by omega), fun x hx => by have := hb9 x hx; omega⟩), hfn_o, hoc_o, rfl, hv0_o, hu0_59, rfl⟩
          refine g_close (w := wc_8) [7, 7, 7, 7, 7] rfl ewc_8 rfl ?_
          refine (show Go g κ 62 [some (.ref m), some (.int (nI k)), some (.ref it18), some (.int (nI r32))] [] [[(m, .inr (12, [.ref ls, .ref lb, .ref lk, .ref lp, .ref lr, .ref le, .ref lm, .ref lo, .int (nI th), .int z, .int (nI bo), .int (nI cm)]))], w1, w3, [(it18, .inr (22, [.int (nI (j + 1)), .int (nI j), .int md_3, .ref p15]))], u4_15, lu1_o, lu2_o, wc_8] (2 * (2 * Ks.length + 51 + 16 * Q - (j + 1)) + (capF n / 5 - capF (putL E (some r32)).length / 5) + (Ps.length - (k + 1)) * (223 + 8 * Ks.length + 64 * Q + 2 * (capF n / 5))) (5 * (2 * Ks.length + 51 + 16 * Q - (j + 1)) + 4 * (capF n - capF (putL E (some r32)).length) + (Ps.length - (k + 1)) * (700 + 20 * Ks.length + 160 * Q + 8 * capF n)) from ?_)
          obtain ⟨wc_9, ewc_9⟩ : ∃ w : va_W, w = ([lu1_o, wc_8, lu2_o] : List va_W).flatten := ⟨_, rfl⟩
          have hwc_9 : LoP g (MpP g) lp mps ((Qs.set k (evS r E)).set k (evS r (putL E (some r32)))) pcap wc_9 := by
            rw [ewc_9]
            exact hlcl_o _ _ hwc_8
          refine g_close (w := wc_9) [5, 6, 5] rfl ewc_9 rfl ?_
          refine (show Go g κ 62 [some (.ref m), some (.int (nI k)), some (.ref it18), some (.int (nI r32))] [] [[(m, .inr (12, [.ref ls, .ref lb, .ref lk, .ref lp, .ref lr, .ref le, .ref lm, .ref lo, .int (nI th), .int z, .int (nI bo), .int (nI cm)]))], w1, w3, [(it18, .inr (22, [.int (nI (j + 1)), .int (nI j), .int md_3, .ref p15]))], u4_15, wc_9] (2 * (2 * Ks.length + 51 + 16 * Q - (j + 1)) + (capF n / 5 - capF (putL E (some r32)).length / 5) + (Ps.length - (k + 1)) * (223 + 8 * Ks.length + 64 * Q + 2 * (capF n / 5))) (5 * (2 * Ks.length + 51 + 16 * Q - (j + 1)) + 4 * (capF n - capF (putL E (some r32)).length) + (Ps.length - (k + 1)) * (700 + 20 * Ks.length + 160 * Q + 8 * capF n)) from ?_)
          have hr_10 : LoP g (MpP g) lp mps (Qs.set k (evS r (putL E (some r32)))) pcap wc_9 := by have z := hwc_9; rw [List.set_set] at z; exact z
          refine g_goto (tgt := 22) B dX3_notes_62 (by decide) ?_
          refine g_fg 3 rfl ?_
          refine g_pk [0, 0, 3, 0, 0, 0] rfl rfl ?_
          refine (show Go g κ 22 [some (.ref m), some (.int (nI k)), some (.ref it18), none] [] [[(m, .inr (12, [.ref ls, .ref lb, .ref lk, .ref lp, .ref lr, .ref le, .ref lm, .ref lo, .int (nI th), .int z, .int (nI bo), .int (nI cm)]))], w1, wc_9, w3, [(it18, .inr (22, [.int (nI (j + 1)), .int (nI j), .int md_3, .ref p15]))], u4_15] (2 * (2 * Ks.length + 51 + 16 * Q - (j + 1)) + (capF n / 5 - capF (putL E (some r32)).length / 5) + (Ps.length - (k + 1)) * (223 + 8 * Ks.length + 64 * Q + 2 * (capF n / 5))) (5 * (2 * Ks.length + 51 + 16 * Q - (j + 1)) + 4 * (capF n - capF (putL E (some r32)).length) + (Ps.length - (k + 1)) * (700 + 20 * Ks.length + 160 * Q + 8 * capF n)) from ?_)
          exact ih22 _ (by have := get_lt2 hr32; omega) (j + 1) (nI j) (putL E (some r32)) wc_9 hr_10 (by first | assumption | omega | rfl) (fun x => by rw [mem_putL, hEm x, mem_tk1 hr32, or_assoc]) (hd9) (hb9) rfl
      refine g_room (kc2 := 2 * (2 * Ks.length + 51 + 16 * Q - 0) + (capF n / 5 - capF (mEv r).length / 5) + (Ps.length - (k + 1)) * (223 + 8 * Ks.length + 64 * Q + 2 * (capF n / 5))) (ks2 := 5 * (2 * Ks.length + 51 + 16 * Q - 0) + 4 * (capF n - capF (mEv r).length) + (Ps.length - (k + 1)) * (700 + 20 * Ks.length + 160 * Q + 8 * capF n)) (by omega) (by omega) ?_
      exact lp22 _ 0 (-1) (mEv r) l2_2 hr_2 (Nat.zero_le _) (fun x => ⟨Or.inl, fun h => h.elim id fun z => (by simp at z)⟩) (hvn) (hvb) rfl
  refine g_room (kc2 := (Ps.length - 0) * (223 + 8 * Ks.length + 64 * Q + 2 * (capF n / 5))) (ks2 := (Ps.length - 0) * (700 + 20 * Ks.length + 160 * Q + 8 * capF n)) (by omega) (by omega) ?_
  exact lp2 _ 0 Ps w2 hw2 (Nat.zero_le _) (NtR_0 _ _ _) rfl
theorem ct_X3_goesOut (g : Gv) (J : Jd g) {m : Nat} {ls : Nat} {lb : Nat} {lk : Nat} {lp : Nat} {lr : Nat} {le : Nat} {lm : Nat} {lo : Nat} {th : Nat} {z : Int32} {bo : Nat} {cm : Nat} {a : Nat} {r : MpS} {w1 : va_W} (hw1 : MpP g a r w1) : Ct g yX3_goesOut (ws_ yX3_goesOut cX3_goesOut 3 none) 1 0 0 [.ref m, .ref a] [[(m, .inr (12, [.ref ls, .ref lb, .ref lk, .ref lp, .ref lr, .ref le, .ref lm, .ref lo, .int (nI th), .int z, .int (nI bo), .int (nI cm)]))], w1] (fun (rv_ : Option Value) (rL_ : List va_W) => ∃ (u1 : va_W), rv_ = none ∧ rL_ = [[(m, .inr (12, [.ref ls, .ref lb, .ref lk, .ref lp, .ref lr, .ref le, .ref lm, .ref lo, .int (nI th), .int z, .int (nI bo), .int (nI cm)]))], u1] ∧ MpP g a ((none, mLf r, mLs r, none, fun _ => none, fun _ => none, mEv r) : MpS) u1) noX := by
  refine Ct.of "KeygroveModel" [some (.ref m), some (.ref a), none] rfl (by decide) rfl (Nat.le_of_ble_eq_true rfl) rfl ?_
  intro κ B E tb
  obtain ⟨nd, ch, ev, cv, fn, fc, v0, v1, hM, hfn, hoc, hcv, hv0, hv1, rfl⟩ := hw1
  refine g_open 1 rfl rfl rfl ?_
  refine (show Go g κ 0 [some (.ref m), some (.ref a), none] [] [[(m, .inr (12, [.ref ls, .ref lb, .ref lk, .ref lp, .ref lr, .ref le, .ref lm, .ref lo, .int (nI th), .int z, .int (nI bo), .int (nI cm)]))], [(a, .inr (13, [.int (oI (mEp r)), .int (nI (mLf r)), .int (nI (mLs r)), .int (oI (mRn r)), .ref nd, .ref ch, .ref ev]))], [(nd, .inl (g.2.1 0, 31, .inl fn))], [(ch, .inl (g.2.1 5, 16, .inr (.inr (.inr (.inr fc)))))], v0, v1] 0 0 from ?_)
  refine g_aload_n (q := 1) B dX3_goesOut_0 rfl rfl (rv_r _) ?_
  refine g_iconst (v := -1) (q := 2) B dX3_goesOut_1 rfl (by decide) ?_
  refine g_putN (q := 5) (L2 := [[(m, .inr (12, [.ref ls, .ref lb, .ref lk, .ref lp, .ref lr, .ref le, .ref lm, .ref lo, .int (nI th), .int z, .int (nI bo), .int (nI cm)]))], [(a, .inr (13, [.int (-1), .int (nI (mLf r)), .int (nI (mLs r)), .int (oI (mRn r)), .ref nd, .ref ch, .ref ev]))], [(nd, .inl (g.2.1 0, 31, .inl fn))], [(ch, .inl (g.2.1 5, 16, .inr (.inr (.inr (.inr fc)))))], v0, v1]) B (ci := 13) (k := 1) (j := 0) in_X5 tyX5 tyX5_ok nmX5 rfl dX3_goesOut_2 rfl rfl (Nat.le_of_ble_eq_true rfl) q3118 rfl rfl rfl rfl (Nat.le_of_ble_eq_true rfl) rfl ?_
  refine g_aload_n (q := 6) B dX3_goesOut_5 rfl rfl (rv_r _) ?_
  refine g_iconst (v := -1) (q := 7) B dX3_goesOut_6 rfl (by decide) ?_
  refine g_putN (q := 10) (L2 := [[(m, .inr (12, [.ref ls, .ref lb, .ref lk, .ref lp, .ref lr, .ref le, .ref lm, .ref lo, .int (nI th), .int z, .int (nI bo), .int (nI cm)]))], [(a, .inr (13, [.int (-1), .int (nI (mLf r)), .int (nI (mLs r)), .int (-1), .ref nd, .ref ch, .ref ev]))], [(nd, .inl (g.2.1 0, 31, .inl fn))], [(ch, .inl (g.2.1 5, 16, .inr (.inr (.inr (.inr fc)))))], v0, v1]) B (ci := 13) (k := 1) (j := 3) in_X5 tyX5 tyX5_ok nmX5 rfl dX3_goesOut_7 rfl rfl (Nat.le_of_ble_eq_true rfl) q3122 rfl rfl rfl rfl (Nat.le_of_ble_eq_true rfl) rfl ?_
  refine g_iconst (v := nI 0) (q := 11) B dX3_goesOut_10 rfl (by decide) ?_
  refine g_istore_n (q := 12) (lv2 := [some (.ref m), some (.ref a), some (.int (nI 0))]) B dX3_goesOut_11 rfl (Nat.le_of_ble_eq_true rfl) rfl ?_
  have lp12 : ∀ (n12 : Nat) (k : Nat) (f1 : Nat → Int32) , (k ≤ 31) → (∀ i, i < k → f1 i = -1) → 31 - k = n12 → Go g κ 12 [some (.ref m), some (.ref a), some (.int (nI k))] [] [[(m, .inr (12, [.ref ls, .ref lb, .ref lk, .ref lp, .ref lr, .ref le, .ref lm, .ref lo, .int (nI th), .int z, .int (nI bo), .int (nI cm)]))], [(a, .inr (13, [.int (-1), .int (nI (mLf r)), .int (nI (mLs r)), .int (-1), .ref nd, .ref ch, .ref ev]))], [(nd, .inl (g.2.1 0, 31, .inl f1))], [(ch, .inl (g.2.1 5, 16, .inr (.inr (.inr (.inr fc)))))], v0, v1] 0 0 := by
    intro n12
    induction n12 using Nat.strongRecOn with
    | _ n12 ih12 =>
    intro k f1  hk h1 hmu12
    refine g_iload_n (q := 13) B dX3_goesOut_12 rfl rfl ?_
    refine g_bipush (v := nI 31) (q := 15) B dX3_goesOut_13 rfl (by decide) ?_
    refine g_icmp_ge (tgt := 31) (q := 18) B dX3_goesOut_15 rfl (by decide) (nI_leI (by omega) (by omega)) (fun c15 => ?_) (fun c15 => ?_)
    · skip
      have g1 : ∀ i, i < 31 → f1 i = -1 := fun i hi => h1 i (by omega)
      refine g_iconst (v := nI 0) (q := 32) B dX3_goesOut_31 rfl (by decide) ?_
      refine g_istore_n (q := 33) (lv2 := [some (.ref m), some (.ref a), some (.int (nI 0))]) B dX3_goesOut_32 rfl (Nat.le_of_ble_eq_true rfl) rfl ?_
      have lp33 : ∀ (n33 : Nat) (k : Nat) (f2 : Nat → Option Nat) , (k ≤ 16) → (∀ i, i < k → f2 i = none) → (∀ i, 16 ≤ i → f2 i = none) → 16 - k = n33 → Go g κ 33 [some (.ref m), some (.ref a), some (.int (nI k))] [] [[(m, .inr (12, [.ref ls, .ref lb, .ref lk, .ref lp, .ref lr, .ref le, .ref lm, .ref lo, .int (nI th), .int z, .int (nI bo), .int (nI cm)]))], [(a, .inr (13, [.int (-1), .int (nI (mLf r)), .int (nI (mLs r)), .int (-1), .ref nd, .ref ch, .ref ev]))], [(nd, .inl (g.2.1 0, 31, .inl f1))], [(ch, .inl (g.2.1 5, 16, .inr (.inr (.inr (.inr f2)))))], v0, v1] 0 0 := by
        intro n33
        induction n33 using Nat.strongRecOn with
        | _ n33 ih33 =>
        intro k f2  hk hf2 ho9 hmu33
        refine g_iload_n (q := 34) B dX3_goesOut_33 rfl rfl ?_
        refine g_bipush (v := nI 16) (q := 36) B dX3_goesOut_34 rfl (by decide) ?_
        refine g_icmp_ge (tgt := 52) (q := 39) B dX3_goesOut_36 rfl (by decide) (nI_leI (by omega) (by omega)) (fun c36 => ?_) (fun c36 => ?_)
        · skip
          have hfz : f2 = fun _ => none := by
            funext i
            rcases Nat.lt_or_ge i 16 with z | z
            · exact hf2 i (by omega)
            · exact ho9 i z
          rw [hfz]
          refine (show Go g κ 52 [some (.ref m), some (.ref a), some (.int (nI k))] [] [[(m, .inr (12, [.ref ls, .ref lb, .ref lk, .ref lp, .ref lr, .ref le, .ref lm, .ref lo, .int (nI th), .int z, .int (nI bo), .int (nI cm)]))], [(a, .inr (13, [.int (-1), .int (nI (mLf r)), .int (nI (mLs r)), .int (-1), .ref nd, .ref ch, .ref ev]))], [(nd, .inl (g.2.1 0, 31, .inl f1))], [(ch, .inl (g.2.1 5, 16, .inr (.inr (.inr (.inr (fun _ => none))))))], v0, v1] 0 0 from ?_)
          obtain ⟨wc_1, ewc_1⟩ : ∃ w : va_W, w = ([] : List va_W).flatten := ⟨_, rfl⟩
          have hwc_1 : BgM (McP g) (fun _ => none) (fun _ => none) wc_1 := by
            rw [ewc_1]
            exact BgM.nil
          refine g_close (w := wc_1) [] rfl ewc_1 rfl ?_
          refine (show Go g κ 52 [some (.ref m), some (.ref a), some (.int (nI k))] [] [[(m, .inr (12, [.ref ls, .ref lb, .ref lk, .ref lp, .ref lr, .ref le, .ref lm, .ref lo, .int (nI th), .int z, .int (nI bo), .int (nI cm)]))], [(a, .inr (13, [.int (-1), .int (nI (mLf r)), .int (nI (mLs r)), .int (-1), .ref nd, .ref ch, .ref ev]))], [(nd, .inl (g.2.1 0, 31, .inl f1))], [(ch, .inl (g.2.1 5, 16, .inr (.inr (.inr (.inr (fun _ => none))))))], v0, v1, wc_1] 0 0 from ?_)
          obtain ⟨wc_2, ewc_2⟩ : ∃ w : va_W, w = ([[(a, .inr (13, [.int (-1), .int (nI (mLf r)), .int (nI (mLs r)), .int (-1), .ref nd, .ref ch, .ref ev]))], [(nd, .inl (g.2.1 0, 31, .inl f1))], [(ch, .inl (g.2.1 5, 16, .inr (.inr (.inr (.inr (fun _ => none))))))], wc_1, v1] : List va_W).flatten := ⟨_, rfl⟩
          have hwc_2 : MpP g a ((none, mLf r, mLs r, none, fun _ => none, fun _ => none, mEv r) : MpS) wc_2 := by
            rw [ewc_2]
            exact ⟨nd, ch, ev, cv, f1, (fun _ => none), _, _, (by obtain ⟨m1, m2, m3, m4, m5, m6, m7, m8⟩ := hM; exact ⟨(fun n h => by cases h), m2, m3, (fun n h => by cases h), (fun i n h => by cases h), (fun i c h => by cases h), m7, m8⟩), (fun i hi => g1 i hi), (fun i _ => ⟨rfl, rfl⟩), hcv, hwc_1, hv1, rfl⟩
          refine g_close (w := wc_2) [1, 1, 1, 3, 2] rfl ewc_2 rfl ?_
          refine (show Go g κ 52 [some (.ref m), some (.ref a), some (.int (nI k))] [] [[(m, .inr (12, [.ref ls, .ref lb, .ref lk, .ref lp, .ref lr, .ref le, .ref lm, .ref lo, .int (nI th), .int z, .int (nI bo), .int (nI cm)]))], v0, wc_2] 0 0 from ?_)
          refine g_pk [0, 1] rfl rfl ?_
          refine (show Go g κ 52 [some (.ref m), some (.ref a), some (.int (nI k))] [] [[(m, .inr (12, [.ref ls, .ref lb, .ref lk, .ref lp, .ref lr, .ref le, .ref lm, .ref lo, .int (nI th), .int z, .int (nI bo), .int (nI cm)]))], wc_2] 0 0 from ?_)
          exact g_vret B E dX3_goesOut_52 (⟨wc_2, rfl, rfl, hwc_2⟩)
        · skip
          refine g_aload_n (q := 40) B dX3_goesOut_39 rfl rfl (rv_r _) ?_
          refine g_getN (q := 43) B (ci := 13) (k := 1) (j := 5) in_X5 rfl dX3_goesOut_40 rfl rfl (Nat.le_of_ble_eq_true rfl) q3126 rfl rfl ?_
          refine g_iload_n (q := 44) B dX3_goesOut_43 rfl rfl ?_
          refine g_aconst_null (q := 45) B dX3_goesOut_44 rfl ?_
          refine g_astN (q := 46) (L2 := [[(m, .inr (12, [.ref ls, .ref lb, .ref lk, .ref lp, .ref lr, .ref le, .ref lm, .ref lo, .int (nI th), .int z, .int (nI bo), .int (nI cm)]))], [(a, .inr (13, [.int (-1), .int (nI (mLf r)), .int (nI (mLs r)), .int (-1), .ref nd, .ref ch, .ref ev]))], [(nd, .inl (g.2.1 0, 31, .inl f1))], [(ch, .inl (g.2.1 5, 16, .inr (.inr (.inr (.inr (va_up f2 k none))))))], v0, v1]) B (k := 3) (t := 5) dX3_goesOut_45 rfl rfl rfl (vp_in_nI (by omega) (by omega)) (by rw [nI_clamp (by omega)] <;> rfl) ?_
          have hn45 : ∀ i, i < k + 1 → (va_up f2 k none) i = none := by
            intro i hi
            unfold va_up
            split
            · rfl
            · exact hf2 i (by omega)
          have ho45 : ∀ i, 16 ≤ i → (va_up f2 k none) i = none := by
            intro i hi
            unfold va_up
            split
            · rfl
            · exact ho9 i hi
          generalize va_up f2 k none = f45 at hn45 ho45 ⊢
          refine (show Go g κ 46 [some (.ref m), some (.ref a), some (.int (nI k))] [] [[(m, .inr (12, [.ref ls, .ref lb, .ref lk, .ref lp, .ref lr, .ref le, .ref lm, .ref lo, .int (nI th), .int z, .int (nI bo), .int (nI cm)]))], [(a, .inr (13, [.int (-1), .int (nI (mLf r)), .int (nI (mLs r)), .int (-1), .ref nd, .ref ch, .ref ev]))], [(nd, .inl (g.2.1 0, 31, .inl f1))], [(ch, .inl (g.2.1 5, 16, .inr (.inr (.inr (.inr f45)))))], v0, v1] 0 0 from ?_)
          refine g_iinc (v := nI (k + 1)) (q := 49) (lv2 := [some (.ref m), some (.ref a), some (.int (nI (k + 1)))]) B dX3_goesOut_46 rfl rfl (nI_add _ 1) (Nat.le_of_ble_eq_true rfl) rfl ?_
          refine g_goto (tgt := 33) B dX3_goesOut_49 (by decide) ?_
          exact ih33 _ (by omega) (k + 1) f45 (by omega) (hn45) (ho45) rfl
      exact lp33 _ 0 fc (Nat.zero_le _) (fun i h => absurd h (Nat.not_lt_zero i)) (fun i hi => (hoc i hi).1) rfl
    · skip
      refine g_aload_n (q := 19) B dX3_goesOut_18 rfl rfl (rv_r _) ?_
      refine g_getN (q := 22) B (ci := 13) (k := 1) (j := 4) in_X5 rfl dX3_goesOut_19 rfl rfl (Nat.le_of_ble_eq_true rfl) q3124 rfl rfl ?_
      refine g_iload_n (q := 23) B dX3_goesOut_22 rfl rfl ?_
      refine g_iconst (v := -1) (q := 24) B dX3_goesOut_23 rfl (by decide) ?_
      refine g_iast (q := 25) (L2 := [[(m, .inr (12, [.ref ls, .ref lb, .ref lk, .ref lp, .ref lr, .ref le, .ref lm, .ref lo, .int (nI th), .int z, .int (nI bo), .int (nI cm)]))], [(a, .inr (13, [.int (-1), .int (nI (mLf r)), .int (nI (mLs r)), .int (-1), .ref nd, .ref ch, .ref ev]))], [(nd, .inl (g.2.1 0, 31, .inl (upd f1 k (-1))))], [(ch, .inl (g.2.1 5, 16, .inr (.inr (.inr (.inr fc)))))], v0, v1]) B (k := 2) dX3_goesOut_24 rfl rfl (vp_in_nI (by omega) (by omega)) (by rw [nI_clamp (by omega)] <;> rfl) ?_
      have hn24 : ∀ i, i < k + 1 → (upd f1 k (-1)) i = -1 := by
        intro i hi
        unfold upd
        split
        · rfl
        · exact h1 i (by omega)
      generalize upd f1 k (-1) = f24 at hn24 ⊢
      refine (show Go g κ 25 [some (.ref m), some (.ref a), some (.int (nI k))] [] [[(m, .inr (12, [.ref ls, .ref lb, .ref lk, .ref lp, .ref lr, .ref le, .ref lm, .ref lo, .int (nI th), .int z, .int (nI bo), .int (nI cm)]))], [(a, .inr (13, [.int (-1), .int (nI (mLf r)), .int (nI (mLs r)), .int (-1), .ref nd, .ref ch, .ref ev]))], [(nd, .inl (g.2.1 0, 31, .inl f24))], [(ch, .inl (g.2.1 5, 16, .inr (.inr (.inr (.inr fc)))))], v0, v1] 0 0 from ?_)
      refine g_iinc (v := nI (k + 1)) (q := 28) (lv2 := [some (.ref m), some (.ref a), some (.int (nI (k + 1)))]) B dX3_goesOut_25 rfl rfl (nI_add _ 1) (Nat.le_of_ble_eq_true rfl) rfl ?_
      refine g_goto (tgt := 12) B dX3_goesOut_28 (by decide) ?_
      exact ih12 _ (by omega) (k + 1) f24 (by omega) (hn24) rfl
  exact lp12 _ 0 fn (Nat.zero_le _) (fun i h => absurd h (Nat.not_lt_zero i)) rfl
def cmS (E : MeS) (k : Nat) : Option McS := if k < 16 then (eCh E k).map fun s => (s, 0, []) else none
def comR (r : MpS) (E : MeS) : MpS := (some (eNo E), mLf r, mLs r, none, mNd r, cmS E, mEv r)
theorem BgM.add {α : Type} {E : Nat → α → va_W → Prop} {F : Nat → Option α} {f : Nat → Option Nat} {w : va_W} {k : Nat} (h : BgM E f F w) (hk : k < 128) (hf : f k = none) : ∃ y1 y3 : va_W, (∀ (a : Nat) (r : α) (wj : va_W), E a r wj → BgM E (fup f k (some a)) (fup F k (some r)) ([y1, wj, y3] : List va_W).flatten) ∧ w = ([y1, y3] : List va_W).flatten := by
  obtain ⟨u1, wi, u2, hi, hcl, rfl⟩ := Big.opn h hk
  rcases hi with ⟨h1, h2, rfl⟩ | ⟨b, r, h1, h2, h3⟩
  · refine ⟨u1, u2, fun a r wj hj => hcl _ wj (fun j hj2 hne v hv => ?_) (Or.inr ⟨a, r, fup_s _ _ _, fup_s _ _ _, hj⟩), by simp⟩
    unfold MoE; rw [fup_n hne, fup_n hne]; exact hv
  · rw [hf] at h1; cases h1
theorem cm_n {E : MeS} {k : Nat} {F : Nat → Option McS} (hF : F = fun i => if i < k then cmS E i else none) (h : cmS E k = none) : F = fun i => if i < k + 1 then cmS E i else none := by
  rw [hF]; funext i
  by_cases z : i < k
  · rw [if_pos z, if_pos (by omega)]
  · rw [if_neg z]
    by_cases y : i < k + 1
    · rw [if_pos y, show i = k by omega, h]
    · rw [if_neg y]
theorem cm_y {E : MeS} {k : Nat} {c : McS} {F : Nat → Option McS} (hF : F = fun i => if i < k then cmS E i else none) (h : cmS E k = some c) : fup F k (some c) = fun i => if i < k + 1 then cmS E i else none := by
  rw [hF]; funext i
  unfold fup
  by_cases e : i = k
  · rw [if_pos e, if_pos (by omega), e, h]
  · rw [if_neg e]
    show (if i < k then cmS E i else none) = if i < k + 1 then cmS E i else none
    by_cases z : i < k
    · rw [if_pos z, if_pos (by omega)]
    · rw [if_neg z, if_neg (by omega)]
theorem nwX14 : ∀ j, j < 4 → defaultValue (tyX14 j) = vp_V [.int (nI 0), .int (nI 0), .null, .null] j := by
  intro j hj
  match j, hj with
  | 0, _ => rfl
  | 1, _ => rfl
  | 2, _ => rfl
  | 3, _ => rfl
  | n + 4, hj => exact absurd hj (by omega)
theorem moX14_init : Mo yX14_init 1 := by
  refine ⟨by decide, by decide, by decide +kernel⟩
theorem ct_X3_comes (g : Gv) (J : Jd g) {m : Nat} {ls : Nat} {lb : Nat} {lk : Nat} {lp : Nat} {lr : Nat} {le : Nat} {lm : Nat} {lo : Nat} {th : Nat} {z : Int32} {bo : Nat} {cm : Nat} {a : Nat} {r : MpS} {e : Nat} {Ep : MeS} {w1 : va_W} {we : va_W} (hw1 : MpP g a r w1) (hE : Sub (EpP g e Ep) we) : Ct g yX3_comes (ws_ yX3_comes cX3_comes 4 none) 5 48 160 [.ref m, .ref a, .ref e] [[(m, .inr (12, [.ref ls, .ref lb, .ref lk, .ref lp, .ref lr, .ref le, .ref lm, .ref lo, .int (nI th), .int z, .int (nI bo), .int (nI cm)]))], w1, we] (fun (rv_ : Option Value) (rL_ : List va_W) => ∃ (u1 : va_W), rv_ = none ∧ rL_ = [[(m, .inr (12, [.ref ls, .ref lb, .ref lk, .ref lp, .ref lr, .ref le, .ref lm, .ref lo, .int (nI th), .int z, .int (nI bo), .int (nI cm)]))], u1, we] ∧ MpP g a (comR r Ep) u1) noX := by
  refine Ct.of "KeygroveModel" [some (.ref m), some (.ref a), some (.ref e), none] rfl (by decide) rfl (Nat.le_of_ble_eq_true rfl) rfl ?_
  intro κ B E tb
  obtain ⟨nd, ch, ev, cv, fn, fc, v0, v1, hM, hfn, hoc, hcv, hv0, hv1, rfl⟩ := hw1
  refine g_open 1 rfl rfl rfl ?_
  refine (show Go g κ 0 [some (.ref m), some (.ref a), some (.ref e), none] [] [[(m, .inr (12, [.ref ls, .ref lb, .ref lk, .ref lp, .ref lr, .ref le, .ref lm, .ref lo, .int (nI th), .int z, .int (nI bo), .int (nI cm)]))], we, [(a, .inr (13, [.int (oI (mEp r)), .int (nI (mLf r)), .int (nI (mLs r)), .int (oI (mRn r)), .ref nd, .ref ch, .ref ev]))], [(nd, .inl (g.2.1 0, 31, .inl fn))], [(ch, .inl (g.2.1 5, 16, .inr (.inr (.inr (.inr fc)))))], v0, v1] 48 160 from ?_)
  have hEB := EpP.b2 hE
  refine g_pk [0, 0, 0, 0, 0, 1] rfl rfl ?_
  refine (show Go g κ 0 [some (.ref m), some (.ref a), some (.ref e), none] [] [[(m, .inr (12, [.ref ls, .ref lb, .ref lk, .ref lp, .ref lr, .ref le, .ref lm, .ref lo, .int (nI th), .int z, .int (nI bo), .int (nI cm)]))], we, [(a, .inr (13, [.int (oI (mEp r)), .int (nI (mLf r)), .int (nI (mLs r)), .int (oI (mRn r)), .ref nd, .ref ch, .ref ev]))], [(nd, .inl (g.2.1 0, 31, .inl fn))], [(ch, .inl (g.2.1 5, 16, .inr (.inr (.inr (.inr fc)))))], v1] 48 160 from ?_)
  obtain ⟨wz, ewz⟩ : ∃ w : va_W, w = ([] : List va_W).flatten := ⟨_, rfl⟩
  have hwz : BgM (McP g) (fun _ => none) (fun _ => none) wz := by
    rw [ewz]
    exact BgM.nil
  refine g_close (w := wz) [] rfl ewz rfl ?_
  refine (show Go g κ 0 [some (.ref m), some (.ref a), some (.ref e), none] [] [[(m, .inr (12, [.ref ls, .ref lb, .ref lk, .ref lp, .ref lr, .ref le, .ref lm, .ref lo, .int (nI th), .int z, .int (nI bo), .int (nI cm)]))], we, [(a, .inr (13, [.int (oI (mEp r)), .int (nI (mLf r)), .int (nI (mLs r)), .int (oI (mRn r)), .ref nd, .ref ch, .ref ev]))], [(nd, .inl (g.2.1 0, 31, .inl fn))], [(ch, .inl (g.2.1 5, 16, .inr (.inr (.inr (.inr fc)))))], v1, wz] 48 160 from ?_)
  refine g_aload_n (q := 1) B dX3_comes_0 rfl rfl (rv_r _) ?_
  refine g_aload_n (q := 2) B dX3_comes_1 rfl rfl (rv_r _) ?_
  obtain ⟨ap_1, an_1, al_1, ac_1, aw_1, am_1, ak_1, fp_1, fn_1, fl_1, fc_1, fw_1, fm_1, fk_1, hE_1, hfp_1, hfn_1, hfl_1, hfc_1, hfw_1, hfm_1, hfk_1, hc_1_0, hc_1_1, hc_1_2, hc_1_3, hc_1_4, hc_1_5, hc_1_6, hc_1_7⟩ := EpP.at (hE)
  refine g_getNM (q := 5) B (ci := 16) (k := 1) (j := 0) in_X13 rfl dX3_comes_2 rfl rfl (hc_1_0) (Nat.le_of_ble_eq_true rfl) q3255 rfl rfl ?_
  refine g_putN (q := 8) (L2 := [[(m, .inr (12, [.ref ls, .ref lb, .ref lk, .ref lp, .ref lr, .ref le, .ref lm, .ref lo, .int (nI th), .int z, .int (nI bo), .int (nI cm)]))], we, [(a, .inr (13, [.int (nI (eNo Ep)), .int (nI (mLf r)), .int (nI (mLs r)), .int (oI (mRn r)), .ref nd, .ref ch, .ref ev]))], [(nd, .inl (g.2.1 0, 31, .inl fn))], [(ch, .inl (g.2.1 5, 16, .inr (.inr (.inr (.inr fc)))))], v1, wz]) B (ci := 13) (k := 2) (j := 0) in_X5 tyX5 tyX5_ok nmX5 rfl dX3_comes_5 rfl rfl (Nat.le_of_ble_eq_true rfl) q3118 rfl rfl rfl rfl (Nat.le_of_ble_eq_true rfl) rfl ?_
  refine g_aload_n (q := 9) B dX3_comes_8 rfl rfl (rv_r _) ?_
  refine g_iconst (v := -1) (q := 10) B dX3_comes_9 rfl (by decide) ?_
  refine g_putN (q := 13) (L2 := [[(m, .inr (12, [.ref ls, .ref lb, .ref lk, .ref lp, .ref lr, .ref le, .ref lm, .ref lo, .int (nI th), .int z, .int (nI bo), .int (nI cm)]))], we, [(a, .inr (13, [.int (nI (eNo Ep)), .int (nI (mLf r)), .int (nI (mLs r)), .int (-1), .ref nd, .ref ch, .ref ev]))], [(nd, .inl (g.2.1 0, 31, .inl fn))], [(ch, .inl (g.2.1 5, 16, .inr (.inr (.inr (.inr fc)))))], v1, wz]) B (ci := 13) (k := 2) (j := 3) in_X5 tyX5 tyX5_ok nmX5 rfl dX3_comes_10 rfl rfl (Nat.le_of_ble_eq_true rfl) q3122 rfl rfl rfl rfl (Nat.le_of_ble_eq_true rfl) rfl ?_
  refine g_iconst (v := nI 0) (q := 14) B dX3_comes_13 rfl (by decide) ?_
  refine g_istore_n (q := 15) (lv2 := [some (.ref m), some (.ref a), some (.ref e), some (.int (nI 0))]) B dX3_comes_14 rfl (Nat.le_of_ble_eq_true rfl) rfl ?_
  have lp15 : ∀ (n15 : Nat) (k : Nat) (f1 : Nat → Option Nat) (fk : Nat → Option Nat) (Fk : Nat → Option McS) (l15_6 : va_W), BgM (McP g) fk Fk l15_6 → (k ≤ 16) → (∀ i, i < k → f1 i = fk i) → (∀ i, 16 ≤ i → f1 i = none) → (∀ i, k ≤ i → fk i = none) → (Fk = fun i => if i < k then cmS Ep i else none) → 16 - k = n15 → Go g κ 15 [some (.ref m), some (.ref a), some (.ref e), some (.int (nI k))] [] [[(m, .inr (12, [.ref ls, .ref lb, .ref lk, .ref lp, .ref lr, .ref le, .ref lm, .ref lo, .int (nI th), .int z, .int (nI bo), .int (nI cm)]))], we, [(a, .inr (13, [.int (nI (eNo Ep)), .int (nI (mLf r)), .int (nI (mLs r)), .int (-1), .ref nd, .ref ch, .ref ev]))], [(nd, .inl (g.2.1 0, 31, .inl fn))], [(ch, .inl (g.2.1 5, 16, .inr (.inr (.inr (.inr f1)))))], v1, l15_6] (3 * (16 - k)) (10 * (16 - k)) := by
    intro n15
    induction n15 using Nat.strongRecOn with
    | _ n15 ih15 =>
    intro k f1 fk Fk l15_6 hl15_6 hk hf1 ho9 hfz hFk hmu15
    refine g_iload_n (q := 16) B dX3_comes_15 rfl rfl ?_
    refine g_bipush (v := nI 16) (q := 18) B dX3_comes_16 rfl (by decide) ?_
    refine g_icmp_ge (tgt := 60) (q := 21) B dX3_comes_18 rfl (by decide) (nI_leI (by omega) (by omega)) (fun c18 => ?_) (fun c18 => ?_)
    · skip
      have hke : k = 16 := by omega
      have hff : f1 = fk := by
        funext i
        rcases Nat.lt_or_ge i 16 with z | z
        · exact hf1 i (by omega)
        · rw [ho9 i z, hfz i (by omega)]
      have hFF : Fk = cmS Ep := by
        rw [hFk]; funext i
        show (if i < k then cmS Ep i else none) = _
        by_cases z : i < 16
        · rw [if_pos (by omega)]
        · rw [if_neg (by omega)]; unfold cmS; rw [if_neg z]
      rw [hff]
      refine (show Go g κ 60 [some (.ref m), some (.ref a), some (.ref e), some (.int (nI k))] [] [[(m, .inr (12, [.ref ls, .ref lb, .ref lk, .ref lp, .ref lr, .ref le, .ref lm, .ref lo, .int (nI th), .int z, .int (nI bo), .int (nI cm)]))], we, [(a, .inr (13, [.int (nI (eNo Ep)), .int (nI (mLf r)), .int (nI (mLs r)), .int (-1), .ref nd, .ref ch, .ref ev]))], [(nd, .inl (g.2.1 0, 31, .inl fn))], [(ch, .inl (g.2.1 5, 16, .inr (.inr (.inr (.inr fk)))))], v1, l15_6] (3 * (16 - k)) (10 * (16 - k)) from ?_)
      have hr_2 : BgM (McP g) fk (cmS Ep) l15_6 := by rw [← hFF]; exact hl15_6
      obtain ⟨wc_3, ewc_3⟩ : ∃ w : va_W, w = ([[(a, .inr (13, [.int (nI (eNo Ep)), .int (nI (mLf r)), .int (nI (mLs r)), .int (-1), .ref nd, .ref ch, .ref ev]))], [(nd, .inl (g.2.1 0, 31, .inl fn))], [(ch, .inl (g.2.1 5, 16, .inr (.inr (.inr (.inr fk)))))], l15_6, v1] : List va_W).flatten := ⟨_, rfl⟩
      have hwc_3 : MpP g a (comR r Ep) wc_3 := by
        rw [ewc_3]
        exact ⟨nd, ch, ev, cv, fn, fk, _, _, (by obtain ⟨m1, m2, m3, m4, m5, m6, m7, m8⟩ := hM; exact ⟨(fun n h => by cases h; exact hEB.1), m2, m3, (fun n h => by cases h), m5, (fun i c h => by have h : cmS Ep i = some c := h; unfold cmS at h; split at h; (rename_i hi; cases e9 : eCh Ep i with | none => (rw [e9] at h; cases h) | some s9 => (rw [e9] at h; cases h; exact ⟨hi, hEB.2.2.2.2.1 _ _ e9, (show 0 < 100 by decide), (show 0 ≤ 40 by decide), fun p hp => by cases hp⟩)); cases h), m7, m8⟩), hfn, (fun i hi => ⟨hfz i (by omega), by show cmS Ep i = none; unfold cmS; rw [if_neg (by omega)]⟩), hcv, hr_2, hv1, rfl⟩
      refine g_close (w := wc_3) [2, 2, 2, 3, 2] rfl ewc_3 rfl ?_
      refine (show Go g κ 60 [some (.ref m), some (.ref a), some (.ref e), some (.int (nI k))] [] [[(m, .inr (12, [.ref ls, .ref lb, .ref lk, .ref lp, .ref lr, .ref le, .ref lm, .ref lo, .int (nI th), .int z, .int (nI bo), .int (nI cm)]))], we, wc_3] (3 * (16 - k)) (10 * (16 - k)) from ?_)
      refine g_pk [0, 1, 0] rfl rfl ?_
      refine (show Go g κ 60 [some (.ref m), some (.ref a), some (.ref e), some (.int (nI k))] [] [[(m, .inr (12, [.ref ls, .ref lb, .ref lk, .ref lp, .ref lr, .ref le, .ref lm, .ref lo, .int (nI th), .int z, .int (nI bo), .int (nI cm)]))], wc_3, we] (3 * (16 - k)) (10 * (16 - k)) from ?_)
      exact g_vret B E dX3_comes_60 (⟨wc_3, rfl, rfl, hwc_3⟩)
    · skip
      have hck : cmS Ep k = (eCh Ep k).map fun s => (s, 0, []) := by unfold cmS; rw [if_pos (by omega)]
      refine g_aload_n (q := 22) B dX3_comes_21 rfl rfl (rv_r _) ?_
      refine g_getN (q := 25) B (ci := 13) (k := 2) (j := 5) in_X5 rfl dX3_comes_22 rfl rfl (Nat.le_of_ble_eq_true rfl) q3126 rfl rfl ?_
      refine g_iload_n (q := 26) B dX3_comes_25 rfl rfl ?_
      refine g_aload_n (q := 27) B dX3_comes_26 rfl rfl (rv_r _) ?_
      refine g_getNM (q := 30) B (ci := 16) (k := 1) (j := 7) in_X13 rfl dX3_comes_27 rfl rfl (hc_1_0) (Nat.le_of_ble_eq_true rfl) q3267 rfl rfl ?_
      refine g_iload_n (q := 31) B dX3_comes_30 rfl rfl ?_
      refine g_ialdM (v := oI ((eCh Ep) k)) (q := 32) B (k := 1) dX3_comes_31 rfl rfl (hc_1_4) (vp_in_nI (by omega) (by omega)) (by rw [nI_clamp (by omega)]; exact hfc_1 _ (by omega)) ?_
      refine g_iconst (v := -1) (q := 33) B dX3_comes_32 rfl (by decide) ?_
      refine g_icmp_ne (tgt := 40) (q := 36) B dX3_comes_33 rfl (by decide) (oI_nn ((fun n h => by have := hE_1.2.2.2.2.1 _ _ h; omega))) (fun c33 => ?_) (fun c33 => ?_)
      · skip
        obtain ⟨v33, ev33⟩ := Option.ne_none_iff_exists'.mp c33
        refine g_new (q := 43) (kc2 := (3 * (16 - k)) - 1) (ks2 := (10 * (16 - k)) - 4) (fs := [.int (nI 0), .int (nI 0), .null, .null]) B (ci := 17) in_X14 tyX14_ok rfl dX3_comes_40 rfl q3310 q3311 q138 (nwX14) (by omega) (by omega) (fun n40 => ?_)
        refine (show Go g κ 43 [some (.ref m), some (.ref a), some (.ref e), some (.int (nI k))] [.ref n40, .int (nI k), .ref ch] [[(m, .inr (12, [.ref ls, .ref lb, .ref lk, .ref lp, .ref lr, .ref le, .ref lm, .ref lo, .int (nI th), .int z, .int (nI bo), .int (nI cm)]))], we, [(a, .inr (13, [.int (nI (eNo Ep)), .int (nI (mLf r)), .int (nI (mLs r)), .int (-1), .ref nd, .ref ch, .ref ev]))], [(nd, .inl (g.2.1 0, 31, .inl fn))], [(ch, .inl (g.2.1 5, 16, .inr (.inr (.inr (.inr f1)))))], v1, l15_6, [(n40, .inr (17, [.int (nI 0), .int (nI 0), .null, .null]))]] ((3 * (16 - k)) - 1) ((10 * (16 - k)) - 4) from ?_)
        refine g_dup (q := 44) B dX3_comes_43 rfl rfl ?_
        refine g_aload_n (q := 45) B dX3_comes_44 rfl rfl (rv_r _) ?_
        refine g_getNM (q := 48) B (ci := 16) (k := 1) (j := 7) in_X13 rfl dX3_comes_45 rfl rfl (hc_1_0) (Nat.le_of_ble_eq_true rfl) q3267 rfl rfl ?_
        refine g_iload_n (q := 49) B dX3_comes_48 rfl rfl ?_
        refine g_ialdM (v := oI ((eCh Ep) k)) (q := 50) B (k := 1) dX3_comes_49 rfl rfl (hc_1_4) (vp_in_nI (by omega) (by omega)) (by rw [nI_clamp (by omega)]; exact hfc_1 _ (by omega)) ?_
        refine g_stk (y := .int (nI v33)) (by rw [ev33]; rfl) ?_
        refine g_callI (q := 53) (is := [7]) (kc2 := (3 * (16 - k)) - 3) (ks2 := (10 * (16 - k)) - 10) B [.int (nI v33)] (ct_X14_init g J (a := n40) (s := v33)  (hEB.2.2.2.2.1 _ _ ev33)) dX3_comes_50 rfl rfl q3312 q3313 q138 q3314 rfl rfl moX14_init rfl rfl (by decide) (by decide) (Nat.le_of_ble_eq_true rfl) (by omega) (by omega) (fun _ _ hx => noX_x hx) (fun v50 L1 hp50 => ?_)
        obtain ⟨u0_50, rfl, rfl, hu0_50⟩ := hp50
        refine (show Go g κ 53 [some (.ref m), some (.ref a), some (.ref e), some (.int (nI k))] [.ref n40, .int (nI k), .ref ch] [[(m, .inr (12, [.ref ls, .ref lb, .ref lk, .ref lp, .ref lr, .ref le, .ref lm, .ref lo, .int (nI th), .int z, .int (nI bo), .int (nI cm)]))], we, [(a, .inr (13, [.int (nI (eNo Ep)), .int (nI (mLf r)), .int (nI (mLs r)), .int (-1), .ref nd, .ref ch, .ref ev]))], [(nd, .inl (g.2.1 0, 31, .inl fn))], [(ch, .inl (g.2.1 5, 16, .inr (.inr (.inr (.inr f1)))))], v1, l15_6, u0_50] ((3 * (16 - k)) - 3) ((10 * (16 - k)) - 10) from ?_)
        obtain ⟨y1, y3, hya, hye⟩ := BgM.add hl15_6 (k := k) (by omega) (hfz k (by omega))
        refine g_open 6 rfl hye rfl ?_
        refine (show Go g κ 53 [some (.ref m), some (.ref a), some (.ref e), some (.int (nI k))] [.ref n40, .int (nI k), .ref ch] [[(m, .inr (12, [.ref ls, .ref lb, .ref lk, .ref lp, .ref lr, .ref le, .ref lm, .ref lo, .int (nI th), .int z, .int (nI bo), .int (nI cm)]))], we, [(a, .inr (13, [.int (nI (eNo Ep)), .int (nI (mLf r)), .int (nI (mLs r)), .int (-1), .ref nd, .ref ch, .ref ev]))], [(nd, .inl (g.2.1 0, 31, .inl fn))], [(ch, .inl (g.2.1 5, 16, .inr (.inr (.inr (.inr f1)))))], v1, u0_50, y1, y3] ((3 * (16 - k)) - 3) ((10 * (16 - k)) - 10) from ?_)
        refine g_astO (q := 54) (L2 := [[(m, .inr (12, [.ref ls, .ref lb, .ref lk, .ref lp, .ref lr, .ref le, .ref lm, .ref lo, .int (nI th), .int z, .int (nI bo), .int (nI cm)]))], we, [(a, .inr (13, [.int (nI (eNo Ep)), .int (nI (mLf r)), .int (nI (mLs r)), .int (-1), .ref nd, .ref ch, .ref ev]))], [(nd, .inl (g.2.1 0, 31, .inl fn))], [(ch, .inl (g.2.1 5, 16, .inr (.inr (.inr (.inr (va_up f1 k (some n40)))))))], v1, u0_50, y1, y3]) B (k := 4) (t := 5) (C := "KeygroveModel$Chain") (rc_in B (ci := 17) rfl (k := 6) rfl (McP.hm hu0_50)) as_s dX3_comes_53 rfl rfl rfl (vp_in_nI (by omega) (by omega)) (by rw [nI_clamp (by omega)] <;> rfl) ?_
        have hcn : cmS Ep k = some (v33, 0, []) := by rw [hck, ev33]; rfl
        have hFk9 := cm_y hFk hcn
        obtain ⟨wc_4, ewc_4⟩ : ∃ w : va_W, w = ([y1, u0_50, y3] : List va_W).flatten := ⟨_, rfl⟩
        have hwc_4 : BgM (McP g) (fup fk k (some n40)) (fup Fk k (some (v33, 0, []))) wc_4 := by
          rw [ewc_4]
          exact hya _ _ _ hu0_50
        refine g_close (w := wc_4) [7, 6, 6] rfl ewc_4 rfl ?_
        refine (show Go g κ 54 [some (.ref m), some (.ref a), some (.ref e), some (.int (nI k))] [] [[(m, .inr (12, [.ref ls, .ref lb, .ref lk, .ref lp, .ref lr, .ref le, .ref lm, .ref lo, .int (nI th), .int z, .int (nI bo), .int (nI cm)]))], we, [(a, .inr (13, [.int (nI (eNo Ep)), .int (nI (mLf r)), .int (nI (mLs r)), .int (-1), .ref nd, .ref ch, .ref ev]))], [(nd, .inl (g.2.1 0, 31, .inl fn))], [(ch, .inl (g.2.1 5, 16, .inr (.inr (.inr (.inr (va_up f1 k (some n40)))))))], v1, wc_4] ((3 * (16 - k)) - 3) ((10 * (16 - k)) - 10) from ?_)
        have hn9 : ∀ i, i < k + 1 → (va_up f1 k (some n40)) i = fup fk k (some n40) i := by
          intro i hi
          unfold va_up fup
          split
          · rfl
          · exact hf1 i (by omega)
        have ho8 : ∀ i, 16 ≤ i → (va_up f1 k (some n40)) i = none := by
          intro i hi
          unfold va_up
          split
          · omega
          · exact ho9 i hi
        have hfz9 : ∀ i, k + 1 ≤ i → fup fk k (some n40) i = none := fun i hi => by rw [fup_n (by omega)]; exact hfz i (by omega)
        generalize va_up f1 k (some n40) = f9 at hn9 ho8 ⊢
        refine (show Go g κ 54 [some (.ref m), some (.ref a), some (.ref e), some (.int (nI k))] [] [[(m, .inr (12, [.ref ls, .ref lb, .ref lk, .ref lp, .ref lr, .ref le, .ref lm, .ref lo, .int (nI th), .int z, .int (nI bo), .int (nI cm)]))], we, [(a, .inr (13, [.int (nI (eNo Ep)), .int (nI (mLf r)), .int (nI (mLs r)), .int (-1), .ref nd, .ref ch, .ref ev]))], [(nd, .inl (g.2.1 0, 31, .inl fn))], [(ch, .inl (g.2.1 5, 16, .inr (.inr (.inr (.inr f9)))))], v1, wc_4] ((3 * (16 - k)) - 3) ((10 * (16 - k)) - 10) from ?_)
        refine g_iinc (v := nI (k + 1)) (q := 57) (lv2 := [some (.ref m), some (.ref a), some (.ref e), some (.int (nI (k + 1)))]) B dX3_comes_54 rfl rfl (nI_add _ 1) (Nat.le_of_ble_eq_true rfl) rfl ?_
        refine g_goto (tgt := 15) B dX3_comes_57 (by decide) ?_
        refine g_room (kc2 := 3 * (16 - (k + 1))) (ks2 := 10 * (16 - (k + 1))) (by omega) (by omega) ?_
        exact ih15 _ (by omega) (k + 1) f9 (fup fk k (some n40)) (fup Fk k (some (v33, 0, []))) wc_4 hwc_4 (by omega) (hn9) (ho8) (hfz9) (hFk9) rfl
      · skip
        have c33 := Classical.not_not.mp c33
        refine g_aconst_null (q := 37) B dX3_comes_36 rfl ?_
        refine g_goto (tgt := 53) B dX3_comes_37 (by decide) ?_
        refine g_astN (q := 54) (L2 := [[(m, .inr (12, [.ref ls, .ref lb, .ref lk, .ref lp, .ref lr, .ref le, .ref lm, .ref lo, .int (nI th), .int z, .int (nI bo), .int (nI cm)]))], we, [(a, .inr (13, [.int (nI (eNo Ep)), .int (nI (mLf r)), .int (nI (mLs r)), .int (-1), .ref nd, .ref ch, .ref ev]))], [(nd, .inl (g.2.1 0, 31, .inl fn))], [(ch, .inl (g.2.1 5, 16, .inr (.inr (.inr (.inr (va_up f1 k none))))))], v1, l15_6]) B (k := 4) (t := 5) dX3_comes_53 rfl rfl rfl (vp_in_nI (by omega) (by omega)) (by rw [nI_clamp (by omega)] <;> rfl) ?_
        have hcn : cmS Ep k = none := by rw [hck, c33]; rfl
        have hFk9 := cm_n hFk hcn
        have hn9 : ∀ i, i < k + 1 → (va_up f1 k none) i = fk i := by
          intro i hi
          unfold va_up
          split
          · rename_i e; rw [e]; exact (hfz k (Nat.le_refl k)).symm
          · exact hf1 i (by omega)
        have ho8 : ∀ i, 16 ≤ i → (va_up f1 k none) i = none := by
          intro i hi
          unfold va_up
          split
          · rfl
          · exact ho9 i hi
        have hfz9 : ∀ i, k + 1 ≤ i → fk i = none := fun i hi => hfz i (by omega)
        generalize va_up f1 k none = f9 at hn9 ho8 ⊢
        refine (show Go g κ 54 [some (.ref m), some (.ref a), some (.ref e), some (.int (nI k))] [] [[(m, .inr (12, [.ref ls, .ref lb, .ref lk, .ref lp, .ref lr, .ref le, .ref lm, .ref lo, .int (nI th), .int z, .int (nI bo), .int (nI cm)]))], we, [(a, .inr (13, [.int (nI (eNo Ep)), .int (nI (mLf r)), .int (nI (mLs r)), .int (-1), .ref nd, .ref ch, .ref ev]))], [(nd, .inl (g.2.1 0, 31, .inl fn))], [(ch, .inl (g.2.1 5, 16, .inr (.inr (.inr (.inr f9)))))], v1, l15_6] (3 * (16 - k)) (10 * (16 - k)) from ?_)
        refine g_iinc (v := nI (k + 1)) (q := 57) (lv2 := [some (.ref m), some (.ref a), some (.ref e), some (.int (nI (k + 1)))]) B dX3_comes_54 rfl rfl (nI_add _ 1) (Nat.le_of_ble_eq_true rfl) rfl ?_
        refine g_goto (tgt := 15) B dX3_comes_57 (by decide) ?_
        refine g_room (kc2 := 3 * (16 - (k + 1))) (ks2 := 10 * (16 - (k + 1))) (by omega) (by omega) ?_
        exact ih15 _ (by omega) (k + 1) f9 fk Fk l15_6 hl15_6 (by omega) (hn9) (ho8) (hfz9) (hFk9) rfl
  refine g_room (kc2 := 3 * (16 - 0)) (ks2 := 10 * (16 - 0)) (by omega) (by omega) ?_
  exact lp15 _ 0 fc (fun _ => none) (fun _ => none) wz hwz (Nat.zero_le _) (fun i h => absurd h (Nat.not_lt_zero i)) (fun i hi => (hoc i hi).1) (fun _ _ => rfl) (by funext i; rw [if_neg (Nat.not_lt_zero i)]) rfl
