set_option maxRecDepth 100000
def PersP (g : Gv) (a : Nat) (x : Nat) (pks : List Nat) (r : PeS) (w : va_W) : Prop := ∃ (ev : Nat) (pl : Nat) (nd : Nat) (ch : Nat) (ecap : Nat) (pcap : Nat) (nn : Nat) (nc : Nat) (plc : List Nat) (md : Int32) (v0 : va_W) (v1 : va_W) (v2 : va_W) (v3 : va_W), (PeB r) ∧ (Plc pks (pPk r) plc) ∧ (ecap ≤ 60) ∧ (pcap ≤ 100) ∧ SetP g ev (pEv r) ecap v0 ∧ ListP g pl plc md pcap v1 ∧ MoP g (BxE g) nd (pNd r) nn v2 ∧ MoP g (ChnP g) ch (pCh r) nc v3 ∧ w = ([[(a, .inr (2, [.int (nI (pNo r)), .ref ev, .ref pl, .int (oI (pEp r)), .int (nI (pLf r)), .ref nd, .int (nI (pOn r)), .int (nI (pKy r)), .ref ch, .int (oI (pRn r)), .ref x]))], v0, v1, v2, v3] : List va_W).flatten
theorem PersP.hm {g : Gv} {a : Nat} {x : Nat} {pks : List Nat} {r : PeS} {w : va_W} (h : PersP g a x pks r w) : ∃ fs, (a, .inr (2, fs)) ∈ w := by
  obtain ⟨ev, pl, nd, ch, ecap, pcap, nn, nc, plc, md, v0, v1, v2, v3, hP, hpl, hec, hpc, hv0, hv1, hv2, hv3, rfl⟩ := h
  exact ⟨_, List.mem_cons_self⟩
theorem PersP.vd {g : Gv} {a : Nat} {x : Nat} {pks : List Nat} {r : PeS} {w : va_W} (h : PersP g a x pks r w) : Vd g a w := by
  obtain ⟨fs, h⟩ := PersP.hm h
  exact Or.inl ⟨2, fs, by decide, h⟩
theorem PersP.at {g : Gv} {a : Nat} {x : Nat} {pks : List Nat} {r : PeS} {W : va_W} (h : Sub (PersP g a x pks r) W) : ∃ (ev : Nat) (pl : Nat) (nd : Nat) (ch : Nat) (ecap : Nat) (pcap : Nat) (nn : Nat) (nc : Nat) (plc : List Nat) (md : Int32), (PeB r) ∧ (Plc pks (pPk r) plc) ∧ (ecap ≤ 60) ∧ (pcap ≤ 100) ∧ (a, .inr (2, [.int (nI (pNo r)), .ref ev, .ref pl, .int (oI (pEp r)), .int (nI (pLf r)), .ref nd, .int (nI (pOn r)), .int (nI (pKy r)), .ref ch, .int (oI (pRn r)), .ref x])) ∈ W ∧ Sub (SetP g ev (pEv r) ecap) W ∧ Sub (ListP g pl plc md pcap) W ∧ Sub (MoP g (BxE g) nd (pNd r) nn) W ∧ Sub (MoP g (ChnP g) ch (pCh r) nc) W := by
  obtain ⟨w, R, hp, h⟩ := h
  obtain ⟨ev, pl, nd, ch, ecap, pcap, nn, nc, plc, md, v0, v1, v2, v3, hP, hpl, hec, hpc, hv0, hv1, hv2, hv3, rfl⟩ := h
  exact ⟨ev, pl, nd, ch, ecap, pcap, nn, nc, plc, md, hP, hpl, hec, hpc, sub_c hp 0 rfl, Sub.in hp rfl 1 rfl hv0, Sub.in hp rfl 2 rfl hv1, Sub.in hp rfl 3 rfl hv2, Sub.in hp rfl 4 rfl hv3⟩
theorem hc_in {A B C D E P : Prop} (h : P) : ((((A ∨ B) ∨ C) ∨ D) ∨ E) ↔ A ∨ B ∨ (P ∧ (C ∨ D ∨ E)) := by simp [h, or_assoc]
theorem hc_out {A B P Q : Prop} (h : ¬ P) : (A ∨ B) ↔ A ∨ B ∨ (P ∧ Q) := by simp [h]
def BgM {α : Type} (E : Nat → α → va_W → Prop) (f : Nat → Option Nat) (F : Nat → Option α) (w : va_W) : Prop := Big 128 (MoE E f F) w
theorem BgM.opn {α : Type} {E : Nat → α → va_W → Prop} {F : Nat → Option α} {f : Nat → Option Nat} {w2 : va_W} (h : BgM E f F w2) (ho : ∀ k, 128 ≤ k → f k = none ∧ F k = none) {k a : Nat} (hf : f k = some a) : ∃ (r : α) (u1 wi u2 : va_W), F k = some r ∧ E a r wi ∧ (∀ (r2 : α) (wj : va_W), E a r2 wj → BgM E f (fup F k (some r2)) ([u1, wj, u2] : List va_W).flatten) ∧ (∀ wj : va_W, E a r wj → BgM E f F ([u1, wj, u2] : List va_W).flatten) ∧ w2 = ([u1, wi, u2] : List va_W).flatten := MoE.opn h ho hf
theorem ct_X4_isIn_o (g : Gv) (J : Jd g) {a : Nat} {f0 : Nat} {f1 : Nat} {f2 : Nat} {f4 : Nat} {f5 : Nat} {f6 : Nat} {f7 : Nat} {f8 : Nat} {f10 : Nat} {e3 : Option Nat} {e9 : Option Nat} (hb : ∀ n, e3 = some n → n < 2 ^ 31) : Ct g yX4_isIn (ws_ yX4_isIn cX4_isIn 1 (some .boolean)) 0 0 0 [.ref a] [[(a, .inr (2, [.int (nI f0), .ref f1, .ref f2, .int (oI e3), .int (nI f4), .ref f5, .int (nI f6), .int (nI f7), .ref f8, .int (oI e9), .ref f10]))]] (fun (rv_ : Option Value) (rL_ : List va_W) => rv_ = some (.int (nI (if ¬ e3 = none then 1 else 0))) ∧ rL_ = [[(a, .inr (2, [.int (nI f0), .ref f1, .ref f2, .int (oI e3), .int (nI f4), .ref f5, .int (nI f6), .int (nI f7), .ref f8, .int (oI e9), .ref f10]))]]) noX := by
  refine Ct.of "Keygrove$Person" [some (.ref a)] rfl (by decide) rfl (Nat.le_of_ble_eq_true rfl) rfl ?_
  intro κ B E tb
  refine g_aload_n (q := 1) B dX4_isIn_0 rfl rfl (rv_r _) ?_
  refine g_get (q := 4) B (ci := 2) (k := 0) (j := 3) in_X4 rfl dX4_isIn_1 rfl rfl (Nat.le_of_ble_eq_true rfl) q1900 rfl rfl ?_
  refine g_iconst (v := -1) (q := 5) B dX4_isIn_4 rfl (by decide) ?_
  refine g_icmp_eq (tgt := 12) (q := 8) B dX4_isIn_5 rfl (by decide) (oI_n (hb)) (fun c5 => ?_) (fun c5 => ?_)
  · skip
    refine g_iconst (v := nI 0) (q := 13) B dX4_isIn_12 rfl (by decide) ?_
    exact g_zret B E dX4_isIn_13 (by decide) (⟨bo0 (by first | assumption | (intro z; exact z c5) | (exact fun z => c5 z)), rfl⟩)
  · skip
    obtain ⟨v5, ev5⟩ := Option.ne_none_iff_exists'.mp c5
    refine g_iconst (v := nI 1) (q := 9) B dX4_isIn_8 rfl (by decide) ?_
    refine g_goto (tgt := 13) B dX4_isIn_9 (by decide) ?_
    exact g_zret B E dX4_isIn_13 (by decide) (⟨bo1 (by first | assumption | (intro z; exact z c5) | (exact fun z => c5 z)), rfl⟩)
theorem moJ10_values : Mo yJ10_values 0 := by
  refine ⟨by decide, by decide, by decide +kernel⟩
theorem mojava_util_Collection_iterator___Ljava_util_Iterator_ : Mo ⟨"java/util/Collection", "iterator", "()Ljava/util/Iterator;"⟩ 0 := by
  refine ⟨by decide, by decide, by decide +kernel⟩
theorem moX4_isIn : Mo yX4_isIn 0 := by
  refine ⟨by decide, by decide, by decide +kernel⟩
theorem ct_X4_held_o (g : Gv) (J : Jd g) {a : Nat} {x : Nat} {pks : List Nat} {r : PeS} {lk : Nat} {Ks : List PkS} {kcap : Nat} {ev : Nat} {pl : Nat} {nd : Nat} {ch : Nat} {pcap : Nat} {nn : Nat} {nc : Nat} {plc : List Nat} {md : Int32} {w1 : va_W} {w2 : va_W} {w3 : va_W} {w4 : va_W} (hw1 : ListP g pl plc md pcap w1) (hw2 : MoP g (BxE g) nd (pNd r) nn w2) (hw3 : MoP g (ChnP g) ch (pCh r) nc w3) (hw4 : LoP g (PackP g) lk pks Ks kcap w4) (hP : PeB r) (hpl : Plc pks (pPk r) plc) (hpc : pcap ≤ 100) (hkb : ∀ i ∈ pPk r, i < Ks.length) : Ct g yX4_held (ws_ yX4_held cX4_held 6 (some (.object "java/util/BitSet"))) 6 76 210 [.ref a] [[(a, .inr (2, [.int (nI (pNo r)), .ref ev, .ref pl, .int (oI (pEp r)), .int (nI (pLf r)), .ref nd, .int (nI (pOn r)), .int (nI (pKy r)), .ref ch, .int (oI (pRn r)), .ref x]))], w1, w2, w3, w4] (fun (rv_ : Option Value) (rL_ : List va_W) => ∃ (b : Nat) (S : Nat → Bool) (cap : Nat) (u2 : va_W) (u3 : va_W) (u5 : va_W), rv_ = some (.ref b) ∧ rL_ = [[(a, .inr (2, [.int (nI (pNo r)), .ref ev, .ref pl, .int (oI (pEp r)), .int (nI (pLf r)), .ref nd, .int (nI (pOn r)), .int (nI (pKy r)), .ref ch, .int (oI (pRn r)), .ref x]))], w1, u2, u3, w4, u5] ∧ MoP g (BxE g) nd (pNd r) nn u2 ∧ MoP g (ChnP g) ch (pCh r) nc u3 ∧ SetP g b S cap u5 ∧ (∀ x, S x = true ↔ helP Ks r x) ∧ (cap ≤ 30)) noX := by
  refine Ct.of "Keygrove$Person" [some (.ref a), none, none, none, none, none] rfl (by decide) rfl (Nat.le_of_ble_eq_true rfl) rfl ?_
  intro κ B E tb
  have hP0 := hP
  obtain ⟨hp0, hp1, hp2, hp3, hp4, hp5, hp6, hp7, hp8⟩ := hP0
  have hpa := Plc.at hpl
  refine g_new (q := 3) (kc2 := 75) (ks2 := 207) (fs := [.null, .int (nI 0), .int (nI 0)]) B (ci := 26) in_J5 tyJ5_ok rfl dX4_held_0 rfl q1166 q253 q84 (nwJ5) (Nat.le_of_ble_eq_true rfl) (Nat.le_of_ble_eq_true rfl) (fun n0 => ?_)
  refine (show Go g κ 3 [some (.ref a), none, none, none, none, none] [.ref n0] [[(a, .inr (2, [.int (nI (pNo r)), .ref ev, .ref pl, .int (oI (pEp r)), .int (nI (pLf r)), .ref nd, .int (nI (pOn r)), .int (nI (pKy r)), .ref ch, .int (oI (pRn r)), .ref x]))], w1, w2, w3, w4, [(n0, .inr (26, [.null, .int (nI 0), .int (nI 0)]))]] 75 207 from ?_)
  refine g_dup (q := 4) B dX4_held_3 rfl rfl ?_
  refine g_callI (q := 7) (is := [5]) (kc2 := 74) (ks2 := 206) B [] (ct_J5_init g J (b := n0)  ) dX4_held_4 rfl rfl q1167 q255 q84 q256 rfl rfl moJ5_init rfl rfl (by decide) (by decide) (Nat.le_of_ble_eq_true rfl) (Nat.le_of_ble_eq_true rfl) (Nat.le_of_ble_eq_true rfl) (fun _ _ hx => noX_x hx) (fun v4 L1 hp4 => ?_)
  obtain ⟨u0_4, rfl, rfl, hu0_4⟩ := hp4
  refine (show Go g κ 7 [some (.ref a), none, none, none, none, none] [.ref n0] [[(a, .inr (2, [.int (nI (pNo r)), .ref ev, .ref pl, .int (oI (pEp r)), .int (nI (pLf r)), .ref nd, .int (nI (pOn r)), .int (nI (pKy r)), .ref ch, .int (oI (pRn r)), .ref x]))], w1, w2, w3, w4, u0_4] 74 206 from ?_)
  refine g_astore_n (q := 8) (lv2 := [some (.ref a), some (.ref n0), none, none, none, none]) B dX4_held_7 rfl (Nat.le_of_ble_eq_true rfl) (rv_r _) rfl ?_
  refine g_aload_n (q := 9) B dX4_held_8 rfl rfl (rv_r _) ?_
  refine g_get (q := 12) B (ci := 2) (k := 0) (j := 2) in_X4 rfl dX4_held_9 rfl rfl (Nat.le_of_ble_eq_true rfl) q1898 rfl rfl ?_
  refine g_callF (q := 17) (is := [1]) (kc2 := 73) (ks2 := 202) B [] (ct_J2_iterator g J (p := pl) (xs := plc) (md := md) (cap := pcap) hw1 ) dX4_held_12 rfl (ci := 21) rfl (rc_in B (ci := 21) rfl (k := 1) rfl (ListP.hm hw1)) q1169 q1156 q805 q81 q807 q1155 q1154 q806 q804 q318 rfl rfl mojava_util_List_iterator___Ljava_util_Iterator_ rfl rfl (by decide) (by decide) (Nat.le_of_ble_eq_true rfl) (Nat.le_of_ble_eq_true rfl) (Nat.le_of_ble_eq_true rfl) (fun _ _ hx => noX_x hx) (fun v12 L1 hp12 => ?_)
  obtain ⟨it12, rfl, rfl⟩ := hp12
  refine (show Go g κ 17 [some (.ref a), some (.ref n0), none, none, none, none] [.ref it12] [[(a, .inr (2, [.int (nI (pNo r)), .ref ev, .ref pl, .int (oI (pEp r)), .int (nI (pLf r)), .ref nd, .int (nI (pOn r)), .int (nI (pKy r)), .ref ch, .int (oI (pRn r)), .ref x]))], w2, w3, w4, u0_4, [(it12, .inr (22, [.int (nI 0), .int (-1), .int md, .ref pl]))], w1] 73 202 from ?_)
  refine g_astore_n (q := 18) (lv2 := [some (.ref a), some (.ref n0), some (.ref it12), none, none, none]) B dX4_held_17 rfl (Nat.le_of_ble_eq_true rfl) (rv_r _) rfl ?_
  have lp18 : ∀ (n18 : Nat) (k : Nat) (lr : Int32) (S1 : Nat → Bool) (cap1 : Nat) (l18_4 : va_W), SetP g n0 S1 cap1 l18_4 → (k ≤ plc.length) → (∀ x, S1 x = true ↔ pkH Ks ((pPk r).take k) x) → (cap1 ≤ 30) → plc.length - k = n18 → Go g κ 18 [some (.ref a), some (.ref n0), some (.ref it12), none, none, none] [] [[(a, .inr (2, [.int (nI (pNo r)), .ref ev, .ref pl, .int (oI (pEp r)), .int (nI (pLf r)), .ref nd, .int (nI (pOn r)), .int (nI (pKy r)), .ref ch, .int (oI (pRn r)), .ref x]))], w2, w3, w4, l18_4, [(it12, .inr (22, [.int (nI k), .int lr, .int md, .ref pl]))], w1] (72 - cap1) (200 - 2 * cap1) := by
    intro n18
    induction n18 using Nat.strongRecOn with
    | _ n18 ih18 =>
    intro k lr S1 cap1 l18_4 hl18_4 hk hS1 hc1 hmu18
    refine g_aload_n (q := 19) B dX4_held_18 rfl rfl (rv_r _) ?_
    refine g_callF (q := 24) (is := [5, 5]) (kc2 := 72 - cap1) (ks2 := 200 - 2 * cap1) B [] (ct_J19_hasNext g J (p := pl) (xs := plc) (md := md) (cap := pcap) (it := it12) (c := k) (lr := lr) hw1 (by first | assumption | omega | rfl)) dX4_held_19 rfl (ci := 22) rfl (rc_at B (ci := 22) rfl (k := 5) rfl) q1171 q940 q942 q104 q944 q938 q937 q943 q941 q939 rfl rfl mojava_util_Iterator_hasNext___Z rfl rfl (by decide) (by decide) (Nat.le_of_ble_eq_true rfl) (by omega) (by omega) (fun _ _ hx => noX_x hx) (fun v19 L1 hp19 => ?_)
    obtain ⟨rfl, rfl⟩ := hp19
    refine (show Go g κ 24 [some (.ref a), some (.ref n0), some (.ref it12), none, none, none] [.int (nI (if ¬ k = plc.length then 1 else 0))] [[(a, .inr (2, [.int (nI (pNo r)), .ref ev, .ref pl, .int (oI (pEp r)), .int (nI (pLf r)), .ref nd, .int (nI (pOn r)), .int (nI (pKy r)), .ref ch, .int (oI (pRn r)), .ref x]))], w2, w3, w4, l18_4, [(it12, .inr (22, [.int (nI k), .int lr, .int md, .ref pl]))], w1] (72 - cap1) (200 - 2 * cap1) from ?_)
    refine g_if_eq (tgt := 56) (q := 27) B dX4_held_24 rfl (by decide) (bo_eq) (fun c24 => ?_) (fun c24 => ?_)
    · skip
      have hS1e : ∀ x, S1 x = true ↔ pkH Ks (pPk r) x := by
        intro x
        rw [hS1 x, show k = (pPk r).length by have := hpa.1; omega, List.take_length]
      refine g_aload_n (q := 57) B dX4_held_56 rfl rfl (rv_r _) ?_
      refine g_get (q := 60) B (ci := 2) (k := 0) (j := 5) in_X4 rfl dX4_held_57 rfl rfl (Nat.le_of_ble_eq_true rfl) q1904 rfl rfl ?_
      obtain ⟨f_n, mm_n, wm_n, wb_n, hm_n, ho_n, hb_n, he_n⟩ := hw2
      refine g_open 1 rfl he_n rfl ?_
      refine (show Go g κ 60 [some (.ref a), some (.ref n0), some (.ref it12), none, none, none] [.ref nd] [[(a, .inr (2, [.int (nI (pNo r)), .ref ev, .ref pl, .int (oI (pEp r)), .int (nI (pLf r)), .ref nd, .int (nI (pOn r)), .int (nI (pKy r)), .ref ch, .int (oI (pRn r)), .ref x]))], w3, w4, l18_4, [(it12, .inr (22, [.int (nI k), .int lr, .int md, .ref pl]))], w1, wm_n, wb_n] (72 - cap1) (200 - 2 * cap1) from ?_)
      refine g_callV (q := 63) (is := [6]) (kc2 := (72 - cap1) - 1) (ks2 := (200 - 2 * cap1) - 1) B [] (ct_J10_values_m g J (t := nd) (f := f_n) (n := nn) (md := mm_n) hm_n ) dX4_held_60 rfl (rc_in B (ci := 27) rfl (k := 6) rfl (MapP.hm hm_n)) rfl q1176 q1177 q1178 q91 q1179 rfl rfl moJ10_values rfl rfl (by decide) (by decide) (Nat.le_of_ble_eq_true rfl) (by omega) (by omega) (fun _ _ hx => noX_x hx) (fun v60 L1 hp60 => ?_)
      obtain ⟨y60, u0_60, rfl, rfl, hu0_60⟩ := hp60
      refine (show Go g κ 63 [some (.ref a), some (.ref n0), some (.ref it12), none, none, none] [.ref y60] [[(a, .inr (2, [.int (nI (pNo r)), .ref ev, .ref pl, .int (oI (pEp r)), .int (nI (pLf r)), .ref nd, .int (nI (pOn r)), .int (nI (pKy r)), .ref ch, .int (oI (pRn r)), .ref x]))], w3, w4, l18_4, [(it12, .inr (22, [.int (nI k), .int lr, .int md, .ref pl]))], w1, wb_n, u0_60] ((72 - cap1) - 1) ((200 - 2 * cap1) - 1) from ?_)
      refine g_callF (q := 68) (is := [7]) (kc2 := (72 - cap1) - 2) (ks2 := (200 - 2 * cap1) - 5) B [] (ct_J28_iterator_m g J (y := y60) (t := nd) (f := f_n) (n := nn) (md := mm_n) hu0_60 ) dX4_held_63 rfl (ci := 29) rfl (rc_in B (ci := 29) rfl (k := 7) rfl (MvP.hm hu0_60)) q1191 q1203 q920 q113 q922 q1193 q1192 q921 q919 q1202 rfl rfl mojava_util_Collection_iterator___Ljava_util_Iterator_ rfl rfl (by decide) (by decide) (Nat.le_of_ble_eq_true rfl) (by omega) (by omega) (fun _ _ hx => noX_x hx) (fun v63 L1 hp63 => ?_)
      obtain ⟨i63, u0_63, rfl, rfl, hu0_63⟩ := hp63
      refine (show Go g κ 68 [some (.ref a), some (.ref n0), some (.ref it12), none, none, none] [.ref i63] [[(a, .inr (2, [.int (nI (pNo r)), .ref ev, .ref pl, .int (oI (pEp r)), .int (nI (pLf r)), .ref nd, .int (nI (pOn r)), .int (nI (pKy r)), .ref ch, .int (oI (pRn r)), .ref x]))], w3, w4, l18_4, [(it12, .inr (22, [.int (nI k), .int lr, .int md, .ref pl]))], w1, wb_n, u0_63] ((72 - cap1) - 2) ((200 - 2 * cap1) - 5) from ?_)
      refine g_astore_n (q := 69) (lv2 := [some (.ref a), some (.ref n0), some (.ref i63), none, none, none]) B dX4_held_68 rfl (Nat.le_of_ble_eq_true rfl) (rv_r _) rfl ?_
      have lp69 : ∀ (n69 : Nat) (j : Nat) (la : Option Nat) (S2 : Nat → Bool) (cap2 : Nat) (l69_3 : va_W) (l69_7 : va_W), SetP g n0 S2 cap2 l69_3 → MItP g 33 i63 nd f_n nn mm_n j la l69_7 → (j ≤ 128) → (∀ x, S2 x = true ↔ S1 x = true ∨ upT (pNd r) (fun n x => x = n) j x) → (cap2 ≤ 30) → 128 - j = n69 → Go g κ 69 [some (.ref a), some (.ref n0), some (.ref i63), none, none, none] [] [[(a, .inr (2, [.int (nI (pNo r)), .ref ev, .ref pl, .int (oI (pEp r)), .int (nI (pLf r)), .ref nd, .int (nI (pOn r)), .int (nI (pKy r)), .ref ch, .int (oI (pRn r)), .ref x]))], w3, w4, l69_3, [(it12, .inr (22, [.int (nI k), .int lr, .int md, .ref pl]))], w1, wb_n, l69_7] (67 - cap2) (190 - 2 * cap2) := by
        intro n69
        induction n69 using Nat.strongRecOn with
        | _ n69 ih69 =>
        intro j la S2 cap2 l69_3 l69_7 hl69_3 hl69_7 hj hS2 hc2 hmu69
        refine g_aload_n (q := 70) B dX4_held_69 rfl rfl (rv_r _) ?_
        refine g_callF (q := 75) (is := [7]) (kc2 := 67 - cap2) (ks2 := 190 - 2 * cap2) B [] (ct_J31_hasNext_mv g J (i := i63) (t := nd) (f := f_n) (n := nn) (md := mm_n) (j := j) (la := la) hl69_7 ) dX4_held_70 rfl (ci := 33) rfl (rc_in B (ci := 33) rfl (k := 7) rfl (MItP.hm hl69_7)) q1171 q961 q954 q116 q956 q938 q937 q955 q962 q960 rfl rfl mojava_util_Iterator_hasNext___Z rfl rfl (by decide) (by decide) (Nat.le_of_ble_eq_true rfl) (by omega) (by omega) (fun _ _ hx => noX_x hx) (fun v70 L1 hp70 => ?_)
        obtain ⟨hb70, u0_70, rfl, rfl, hu0_70, hbi_70⟩ := hp70
        refine (show Go g κ 75 [some (.ref a), some (.ref n0), some (.ref i63), none, none, none] [.int (nI (if hb70 = true then 1 else 0))] [[(a, .inr (2, [.int (nI (pNo r)), .ref ev, .ref pl, .int (oI (pEp r)), .int (nI (pLf r)), .ref nd, .int (nI (pOn r)), .int (nI (pKy r)), .ref ch, .int (oI (pRn r)), .ref x]))], w3, w4, l69_3, [(it12, .inr (22, [.int (nI k), .int lr, .int md, .ref pl]))], w1, wb_n, u0_70] (67 - cap2) (190 - 2 * cap2) from ?_)
        refine g_if_eq (tgt := 99) (q := 78) B dX4_held_75 rfl (by decide) (bo_eq) (fun c75 => ?_) (fun c75 => ?_)
        · skip
          have hno75 := fun z => c75 (hbi_70.mpr z)
          have hS2e : ∀ x, S2 x = true ↔ S1 x = true ∨ ∃ n, pNd r n = some x := by
            intro x
            rw [hS2 x, upT_e (fun ⟨q, h1, h2⟩ => hno75 ⟨q, h1, fun z => h2 ((MoE.iffB hb_n ho_n q).mp z)⟩)]
            exact or_congr_right ⟨fun ⟨n, c, h1, h2⟩ => ⟨n, by rw [h2]; exact h1⟩, fun ⟨n, h⟩ => ⟨n, x, h, rfl⟩⟩
          obtain ⟨wz_1, wr_1, hpz_1, hmz_1⟩ := MItP.map hu0_70
          refine g_sub 7 rfl hpz_1 rfl ?_
          refine (show Go g κ 99 [some (.ref a), some (.ref n0), some (.ref i63), none, none, none] [] [[(a, .inr (2, [.int (nI (pNo r)), .ref ev, .ref pl, .int (oI (pEp r)), .int (nI (pLf r)), .ref nd, .int (nI (pOn r)), .int (nI (pKy r)), .ref ch, .int (oI (pRn r)), .ref x]))], w3, w4, l69_3, [(it12, .inr (22, [.int (nI k), .int lr, .int md, .ref pl]))], w1, wb_n, wz_1] (67 - cap2) (190 - 2 * cap2) from ?_)
          obtain ⟨wc_2, ewc_2⟩ : ∃ w : va_W, w = ([wz_1, wb_n] : List va_W).flatten := ⟨_, rfl⟩
          have hwc_2 : MoP g (BxE g) nd (pNd r) nn wc_2 := by
            rw [ewc_2]
            exact ⟨_, _, _, _, hmz_1, ho_n, hb_n, rfl⟩
          refine g_close (w := wc_2) [7, 6] rfl ewc_2 rfl ?_
          refine (show Go g κ 99 [some (.ref a), some (.ref n0), some (.ref i63), none, none, none] [] [[(a, .inr (2, [.int (nI (pNo r)), .ref ev, .ref pl, .int (oI (pEp r)), .int (nI (pLf r)), .ref nd, .int (nI (pOn r)), .int (nI (pKy r)), .ref ch, .int (oI (pRn r)), .ref x]))], w3, w4, l69_3, [(it12, .inr (22, [.int (nI k), .int lr, .int md, .ref pl]))], w1, wc_2] (67 - cap2) (190 - 2 * cap2) from ?_)
          have ct213 : ∀ (S5 : Nat → Bool) (cap5 : Nat) (l213_1 : va_W) (l213_3 : va_W), MoP g (ChnP g) ch (pCh r) nc l213_1 → SetP g n0 S5 cap5 l213_3 → (∀ x, S5 x = true ↔ pkH Ks (pPk r) x ∨ (∃ n, pNd r n = some x) ∨ (pEp r ≠ none ∧ (x = pOn r ∨ x = pKy r ∨ ∃ n c, pCh r n = some c ∧ chH c x))) → (cap5 ≤ 30) → Go g κ 213 [some (.ref a), some (.ref n0), none, none, none, none] [] [[(a, .inr (2, [.int (nI (pNo r)), .ref ev, .ref pl, .int (oI (pEp r)), .int (nI (pLf r)), .ref nd, .int (nI (pOn r)), .int (nI (pKy r)), .ref ch, .int (oI (pRn r)), .ref x]))], l213_1, w4, l213_3, w1, wc_2] (30 - cap5) (60 - 2 * cap5) := by
            intro S5 cap5 l213_1 l213_3 hl213_1 hl213_3 hS5 hc5
            refine g_aload_n (q := 214) B dX4_held_213 rfl rfl (rv_r _) ?_
            refine g_get (q := 217) B (ci := 2) (k := 0) (j := 9) in_X4 rfl dX4_held_214 rfl rfl (Nat.le_of_ble_eq_true rfl) q1912 rfl rfl ?_
            refine g_iconst (v := -1) (q := 218) B dX4_held_217 rfl (by decide) ?_
            refine g_icmp_eq (tgt := 229) (q := 221) B dX4_held_218 rfl (by decide) (oI_n ((fun n h => by have := hp5 _ h; omega))) (fun c218 => ?_) (fun c218 => ?_)
            · skip
              refine g_aload_n (q := 230) B dX4_held_229 rfl rfl (rv_r _) ?_
              refine g_pk [0, 3, 3, 0, 0, 0] rfl rfl ?_
              refine (show Go g κ 230 [some (.ref a), some (.ref n0), none, none, none, none] [.ref n0] [[(a, .inr (2, [.int (nI (pNo r)), .ref ev, .ref pl, .int (oI (pEp r)), .int (nI (pLf r)), .ref nd, .int (nI (pOn r)), .int (nI (pKy r)), .ref ch, .int (oI (pRn r)), .ref x]))], w1, wc_2, l213_1, w4, l213_3] (30 - cap5) (60 - 2 * cap5) from ?_)
              exact g_aret B E dX4_held_230 (by first | exact Or.inl ⟨_, rfl⟩ | exact Or.inr ⟨_, rfl⟩) (rv_r _) (⟨n0, S5, cap5, wc_2, l213_1, l213_3, rfl, rfl, hwc_2, hl213_1, hl213_3, fun x => by unfold helP; rw [hS5 x, c218]; simp, by omega⟩)
            · skip
              obtain ⟨v218, ev218⟩ := Option.ne_none_iff_exists'.mp c218
              refine g_aload_n (q := 222) B dX4_held_221 rfl rfl (rv_r _) ?_
              refine g_aload_n (q := 223) B dX4_held_222 rfl rfl (rv_r _) ?_
              refine g_get (q := 226) B (ci := 2) (k := 0) (j := 9) in_X4 rfl dX4_held_223 rfl rfl (Nat.le_of_ble_eq_true rfl) q1912 rfl rfl ?_
              refine g_stk (y := .int (nI v218)) (by rw [ev218]; rfl) ?_
              have hrn := hp5 _ ev218
              have hcn5 := capN_b (m := v218 / 64 + 1) hc5 (by omega)
              refine g_callV (q := 229) (is := [3]) (kc2 := (30 - cap5) - (capN cap5 (v218 / 64 + 1) - cap5)) (ks2 := (60 - 2 * cap5) - (2 * (capN cap5 (v218 / 64 + 1) - cap5))) B [.int (nI v218)] (ct_J5_set g J (b := n0) (S := S5) (cap := cap5) (i := v218) (mc := (capN cap5 (v218 / 64 + 1) - cap5)) (ms := (2 * (capN cap5 (v218 / 64 + 1) - cap5))) hl213_3 (by omega) (by omega) ((capN_b hc5 (by omega)).2.2)) dX4_held_226 rfl (rc_in B (ci := 26) rfl (k := 3) rfl (SetP.hm hl213_3)) rfl q1175 q1056 q1057 q84 q1058 rfl rfl moJ5_set rfl rfl (by decide) (by decide) (Nat.le_of_ble_eq_true rfl) (by omega) (by omega) (fun _ _ hx => noX_x hx) (fun v226 L1 hp226 => ?_)
              obtain ⟨u0_226, rfl, rfl, hu0_226⟩ := hp226
              refine (show Go g κ 229 [some (.ref a), some (.ref n0), none, none, none, none] [] [[(a, .inr (2, [.int (nI (pNo r)), .ref ev, .ref pl, .int (oI (pEp r)), .int (nI (pLf r)), .ref nd, .int (nI (pOn r)), .int (nI (pKy r)), .ref ch, .int (oI (pRn r)), .ref x]))], l213_1, w4, w1, wc_2, u0_226] ((30 - cap5) - (capN cap5 (v218 / 64 + 1) - cap5)) ((60 - 2 * cap5) - (2 * (capN cap5 (v218 / 64 + 1) - cap5))) from ?_)
              refine g_aload_n (q := 230) B dX4_held_229 rfl rfl (rv_r _) ?_
              refine g_pk [0, 2, 2, 0, 0, 0] rfl rfl ?_
              refine (show Go g κ 230 [some (.ref a), some (.ref n0), none, none, none, none] [.ref n0] [[(a, .inr (2, [.int (nI (pNo r)), .ref ev, .ref pl, .int (oI (pEp r)), .int (nI (pLf r)), .ref nd, .int (nI (pOn r)), .int (nI (pKy r)), .ref ch, .int (oI (pRn r)), .ref x]))], w1, wc_2, l213_1, w4, u0_226] ((30 - cap5) - (capN cap5 (v218 / 64 + 1) - cap5)) ((60 - 2 * cap5) - (2 * (capN cap5 (v218 / 64 + 1) - cap5))) from ?_)
              exact g_aret B E dX4_held_230 (by first | exact Or.inl ⟨_, rfl⟩ | exact Or.inr ⟨_, rfl⟩) (rv_r _) (⟨n0, sIns S5 v218, capN cap5 (v218 / 64 + 1), wc_2, l213_1, u0_226, rfl, rfl, hwc_2, hl213_1, hu0_226, fun x => by unfold helP; rw [sIns_iff, hS5 x, ev218, Option.some.injEq, eq_comm (a := v218), or_assoc, or_assoc], by omega⟩)
          refine g_aload_n (q := 100) B dX4_held_99 rfl rfl (rv_r _) ?_
          refine g_callV (q := 103) (is := [0]) (kc2 := 67 - cap2) (ks2 := 190 - 2 * cap2) B [] (ct_X4_isIn_o g J (a := a) (f0 := pNo r) (f1 := ev) (f2 := pl) (f4 := pLf r) (f5 := nd) (f6 := pOn r) (f7 := pKy r) (f8 := ch) (f10 := x) (e3 := pEp r) (e9 := pRn r)  (fun n h => by have := hp4 _ h; omega)) dX4_held_100 rfl (rc_at B (ci := 2) rfl (k := 0) rfl) rfl q1206 q1207 q1208 q90 q1209 rfl rfl moX4_isIn rfl rfl (by decide) (by decide) (Nat.le_of_ble_eq_true rfl) (by omega) (by omega) (fun _ _ hx => noX_x hx) (fun v100 L1 hp100 => ?_)
          obtain ⟨rfl, rfl⟩ := hp100
          refine (show Go g κ 103 [some (.ref a), some (.ref n0), some (.ref i63), none, none, none] [.int (nI (if ¬ (pEp r) = none then 1 else 0))] [w3, w4, l69_3, [(it12, .inr (22, [.int (nI k), .int lr, .int md, .ref pl]))], w1, wc_2, [(a, .inr (2, [.int (nI (pNo r)), .ref ev, .ref pl, .int (oI (pEp r)), .int (nI (pLf r)), .ref nd, .int (nI (pOn r)), .int (nI (pKy r)), .ref ch, .int (oI (pRn r)), .ref x]))]] (67 - cap2) (190 - 2 * cap2) from ?_)
          refine g_if_eq (tgt := 213) (q := 106) B dX4_held_103 rfl (by decide) (bo_eq) (fun c103 => ?_) (fun c103 => ?_)
          · skip
            refine g_fg 2 rfl ?_
            refine g_pk [6, 0, 0, 0, 1, 1] rfl rfl ?_
            refine (show Go g κ 213 [some (.ref a), some (.ref n0), none, none, none, none] [] [[(a, .inr (2, [.int (nI (pNo r)), .ref ev, .ref pl, .int (oI (pEp r)), .int (nI (pLf r)), .ref nd, .int (nI (pOn r)), .int (nI (pKy r)), .ref ch, .int (oI (pRn r)), .ref x]))], w3, w4, l69_3, w1, wc_2] (67 - cap2) (190 - 2 * cap2) from ?_)
            refine g_room (kc2 := 30 - cap2) (ks2 := 60 - 2 * cap2) (by omega) (by omega) ?_
            exact ct213 S2 cap2 w3 l69_3 hw3 hl69_3 (fun x => by rw [hS2e x, hS1e x]; exact hc_out c103) (by omega)
          · skip
            have c103 := Classical.not_not.mp c103
            refine g_aload_n (q := 107) B dX4_held_106 rfl rfl (rv_r _) ?_
            refine g_aload_n (q := 108) B dX4_held_107 rfl rfl (rv_r _) ?_
            refine g_get (q := 111) B (ci := 2) (k := 6) (j := 6) in_X4 rfl dX4_held_108 rfl rfl (Nat.le_of_ble_eq_true rfl) q1906 rfl rfl ?_
            have hcn := capN_b (m := (pOn r) / 64 + 1) hc2 (by omega)
            refine g_callV (q := 114) (is := [2]) (kc2 := (67 - cap2) - (capN cap2 ((pOn r) / 64 + 1) - cap2)) (ks2 := (190 - 2 * cap2) - (2 * (capN cap2 ((pOn r) / 64 + 1) - cap2))) B [.int (nI (pOn r))] (ct_J5_set g J (b := n0) (S := S2) (cap := cap2) (i := (pOn r)) (mc := (capN cap2 ((pOn r) / 64 + 1) - cap2)) (ms := (2 * (capN cap2 ((pOn r) / 64 + 1) - cap2))) hl69_3 (by omega) (by omega) ((capN_b hc2 (by omega)).2.2)) dX4_held_111 rfl (rc_in B (ci := 26) rfl (k := 2) rfl (SetP.hm hl69_3)) rfl q1175 q1056 q1057 q84 q1058 rfl rfl moJ5_set rfl rfl (by decide) (by decide) (Nat.le_of_ble_eq_true rfl) (by omega) (by omega) (fun _ _ hx => noX_x hx) (fun v111 L1 hp111 => ?_)
            obtain ⟨u0_111, rfl, rfl, hu0_111⟩ := hp111
            refine (show Go g κ 114 [some (.ref a), some (.ref n0), some (.ref i63), none, none, none] [] [w3, w4, [(it12, .inr (22, [.int (nI k), .int lr, .int md, .ref pl]))], w1, wc_2, [(a, .inr (2, [.int (nI (pNo r)), .ref ev, .ref pl, .int (oI (pEp r)), .int (nI (pLf r)), .ref nd, .int (nI (pOn r)), .int (nI (pKy r)), .ref ch, .int (oI (pRn r)), .ref x]))], u0_111] ((67 - cap2) - (capN cap2 ((pOn r) / 64 + 1) - cap2)) ((190 - 2 * cap2) - (2 * (capN cap2 ((pOn r) / 64 + 1) - cap2))) from ?_)
            refine g_aload_n (q := 115) B dX4_held_114 rfl rfl (rv_r _) ?_
            refine g_aload_n (q := 116) B dX4_held_115 rfl rfl (rv_r _) ?_
            refine g_get (q := 119) B (ci := 2) (k := 5) (j := 7) in_X4 rfl dX4_held_116 rfl rfl (Nat.le_of_ble_eq_true rfl) q1908 rfl rfl ?_
            have hcn2 := capN_b (m := pKy r / 64 + 1) hcn.2.1 (by omega)
            refine g_callV (q := 122) (is := [6]) (kc2 := ((67 - cap2) - (capN cap2 ((pOn r) / 64 + 1) - cap2)) - (capN (capN cap2 (pOn r / 64 + 1)) ((pKy r) / 64 + 1) - (capN cap2 (pOn r / 64 + 1)))) (ks2 := ((190 - 2 * cap2) - (2 * (capN cap2 ((pOn r) / 64 + 1) - cap2))) - (2 * (capN (capN cap2 (pOn r / 64 + 1)) ((pKy r) / 64 + 1) - (capN cap2 (pOn r / 64 + 1))))) B [.int (nI (pKy r))] (ct_J5_set g J (b := n0) (S := sIns S2 (pOn r)) (cap := capN cap2 ((pOn r) / 64 + 1)) (i := (pKy r)) (mc := (capN (capN cap2 (pOn r / 64 + 1)) ((pKy r) / 64 + 1) - (capN cap2 (pOn r / 64 + 1)))) (ms := (2 * (capN (capN cap2 (pOn r / 64 + 1)) ((pKy r) / 64 + 1) - (capN cap2 (pOn r / 64 + 1))))) hu0_111 (by omega) (by omega) ((capN_b hcn.2.1 (by omega)).2.2)) dX4_held_119 rfl (rc_in B (ci := 26) rfl (k := 6) rfl (SetP.hm hu0_111)) rfl q1175 q1056 q1057 q84 q1058 rfl rfl moJ5_set rfl rfl (by decide) (by decide) (Nat.le_of_ble_eq_true rfl) (by omega) (by omega) (fun _ _ hx => noX_x hx) (fun v119 L1 hp119 => ?_)
            obtain ⟨u0_119, rfl, rfl, hu0_119⟩ := hp119
            refine (show Go g κ 122 [some (.ref a), some (.ref n0), some (.ref i63), none, none, none] [] [w3, w4, [(it12, .inr (22, [.int (nI k), .int lr, .int md, .ref pl]))], w1, wc_2, [(a, .inr (2, [.int (nI (pNo r)), .ref ev, .ref pl, .int (oI (pEp r)), .int (nI (pLf r)), .ref nd, .int (nI (pOn r)), .int (nI (pKy r)), .ref ch, .int (oI (pRn r)), .ref x]))], u0_119] (((67 - cap2) - (capN cap2 ((pOn r) / 64 + 1) - cap2)) - (capN (capN cap2 (pOn r / 64 + 1)) ((pKy r) / 64 + 1) - (capN cap2 (pOn r / 64 + 1)))) (((190 - 2 * cap2) - (2 * (capN cap2 ((pOn r) / 64 + 1) - cap2))) - (2 * (capN (capN cap2 (pOn r / 64 + 1)) ((pKy r) / 64 + 1) - (capN cap2 (pOn r / 64 + 1))))) from ?_)
            refine g_aload_n (q := 123) B dX4_held_122 rfl rfl (rv_r _) ?_
            refine g_get (q := 126) B (ci := 2) (k := 5) (j := 8) in_X4 rfl dX4_held_123 rfl rfl (Nat.le_of_ble_eq_true rfl) q1910 rfl rfl ?_
            obtain ⟨f_c, mm_c, wm_c, wb_c, hm_c, ho_c, hb_c, he_c⟩ := hw3
            refine g_open 0 rfl he_c rfl ?_
            refine (show Go g κ 126 [some (.ref a), some (.ref n0), some (.ref i63), none, none, none] [.ref ch] [w4, [(it12, .inr (22, [.int (nI k), .int lr, .int md, .ref pl]))], w1, wc_2, [(a, .inr (2, [.int (nI (pNo r)), .ref ev, .ref pl, .int (oI (pEp r)), .int (nI (pLf r)), .ref nd, .int (nI (pOn r)), .int (nI (pKy r)), .ref ch, .int (oI (pRn r)), .ref x]))], u0_119, wm_c, wb_c] (((67 - cap2) - (capN cap2 ((pOn r) / 64 + 1) - cap2)) - (capN (capN cap2 (pOn r / 64 + 1)) ((pKy r) / 64 + 1) - (capN cap2 (pOn r / 64 + 1)))) (((190 - 2 * cap2) - (2 * (capN cap2 ((pOn r) / 64 + 1) - cap2))) - (2 * (capN (capN cap2 (pOn r / 64 + 1)) ((pKy r) / 64 + 1) - (capN cap2 (pOn r / 64 + 1))))) from ?_)
            refine g_callV (q := 129) (is := [6]) (kc2 := (((67 - cap2) - (capN cap2 ((pOn r) / 64 + 1) - cap2)) - (capN (capN cap2 (pOn r / 64 + 1)) ((pKy r) / 64 + 1) - (capN cap2 (pOn r / 64 + 1)))) - 1) (ks2 := (((190 - 2 * cap2) - (2 * (capN cap2 ((pOn r) / 64 + 1) - cap2))) - (2 * (capN (capN cap2 (pOn r / 64 + 1)) ((pKy r) / 64 + 1) - (capN cap2 (pOn r / 64 + 1))))) - 1) B [] (ct_J10_values_m g J (t := ch) (f := f_c) (n := nc) (md := mm_c) hm_c ) dX4_held_126 rfl (rc_in B (ci := 27) rfl (k := 6) rfl (MapP.hm hm_c)) rfl q1176 q1177 q1178 q91 q1179 rfl rfl moJ10_values rfl rfl (by decide) (by decide) (Nat.le_of_ble_eq_true rfl) (by omega) (by omega) (fun _ _ hx => noX_x hx) (fun v126 L1 hp126 => ?_)
            obtain ⟨y126, u0_126, rfl, rfl, hu0_126⟩ := hp126
            refine (show Go g κ 129 [some (.ref a), some (.ref n0), some (.ref i63), none, none, none] [.ref y126] [w4, [(it12, .inr (22, [.int (nI k), .int lr, .int md, .ref pl]))], w1, wc_2, [(a, .inr (2, [.int (nI (pNo r)), .ref ev, .ref pl, .int (oI (pEp r)), .int (nI (pLf r)), .ref nd, .int (nI (pOn r)), .int (nI (pKy r)), .ref ch, .int (oI (pRn r)), .ref x]))], u0_119, wb_c, u0_126] ((((67 - cap2) - (capN cap2 ((pOn r) / 64 + 1) - cap2)) - (capN (capN cap2 (pOn r / 64 + 1)) ((pKy r) / 64 + 1) - (capN cap2 (pOn r / 64 + 1)))) - 1) ((((190 - 2 * cap2) - (2 * (capN cap2 ((pOn r) / 64 + 1) - cap2))) - (2 * (capN (capN cap2 (pOn r / 64 + 1)) ((pKy r) / 64 + 1) - (capN cap2 (pOn r / 64 + 1))))) - 1) from ?_)
            refine g_callF (q := 134) (is := [7]) (kc2 := (((67 - cap2) - (capN cap2 ((pOn r) / 64 + 1) - cap2)) - (capN (capN cap2 (pOn r / 64 + 1)) ((pKy r) / 64 + 1) - (capN cap2 (pOn r / 64 + 1)))) - 2) (ks2 := (((190 - 2 * cap2) - (2 * (capN cap2 ((pOn r) / 64 + 1) - cap2))) - (2 * (capN (capN cap2 (pOn r / 64 + 1)) ((pKy r) / 64 + 1) - (capN cap2 (pOn r / 64 + 1))))) - 5) B [] (ct_J28_iterator_m g J (y := y126) (t := ch) (f := f_c) (n := nc) (md := mm_c) hu0_126 ) dX4_held_129 rfl (ci := 29) rfl (rc_in B (ci := 29) rfl (k := 7) rfl (MvP.hm hu0_126)) q1191 q1203 q920 q113 q922 q1193 q1192 q921 q919 q1202 rfl rfl mojava_util_Collection_iterator___Ljava_util_Iterator_ rfl rfl (by decide) (by decide) (Nat.le_of_ble_eq_true rfl) (by omega) (by omega) (fun _ _ hx => noX_x hx) (fun v129 L1 hp129 => ?_)
            obtain ⟨i129, u0_129, rfl, rfl, hu0_129⟩ := hp129
            refine (show Go g κ 134 [some (.ref a), some (.ref n0), some (.ref i63), none, none, none] [.ref i129] [w4, [(it12, .inr (22, [.int (nI k), .int lr, .int md, .ref pl]))], w1, wc_2, [(a, .inr (2, [.int (nI (pNo r)), .ref ev, .ref pl, .int (oI (pEp r)), .int (nI (pLf r)), .ref nd, .int (nI (pOn r)), .int (nI (pKy r)), .ref ch, .int (oI (pRn r)), .ref x]))], u0_119, wb_c, u0_129] ((((67 - cap2) - (capN cap2 ((pOn r) / 64 + 1) - cap2)) - (capN (capN cap2 (pOn r / 64 + 1)) ((pKy r) / 64 + 1) - (capN cap2 (pOn r / 64 + 1)))) - 2) ((((190 - 2 * cap2) - (2 * (capN cap2 ((pOn r) / 64 + 1) - cap2))) - (2 * (capN (capN cap2 (pOn r / 64 + 1)) ((pKy r) / 64 + 1) - (capN cap2 (pOn r / 64 + 1))))) - 5) from ?_)
            refine g_astore_n (q := 135) (lv2 := [some (.ref a), some (.ref n0), some (.ref i129), none, none, none]) B dX4_held_134 rfl (Nat.le_of_ble_eq_true rfl) (rv_r _) rfl ?_
            have lp135 : ∀ (n135 : Nat) (j : Nat) (la : Option Nat) (S3 : Nat → Bool) (cap3 : Nat) (l135_5 : va_W) (l135_6 : va_W) (l135_7 : va_W), SetP g n0 S3 cap3 l135_5 → BgM (ChnP g) f_c (pCh r) l135_6 → MItP g 33 i129 ch f_c nc mm_c j la l135_7 → (j ≤ 16) → (∀ x, S3 x = true ↔ ((S2 x = true ∨ x = pOn r) ∨ x = pKy r) ∨ upT (pCh r) chH j x) → (cap3 ≤ 30) → 16 - j = n135 → Go g κ 135 [some (.ref a), some (.ref n0), some (.ref i129), none, none, none] [] [w4, [(it12, .inr (22, [.int (nI k), .int lr, .int md, .ref pl]))], w1, wc_2, [(a, .inr (2, [.int (nI (pNo r)), .ref ev, .ref pl, .int (oI (pEp r)), .int (nI (pLf r)), .ref nd, .int (nI (pOn r)), .int (nI (pKy r)), .ref ch, .int (oI (pRn r)), .ref x]))], l135_5, l135_6, l135_7] (64 - cap3 - 2 * j) (170 - 2 * cap3 - 5 * j) := by
              intro n135
              induction n135 using Nat.strongRecOn with
              | _ n135 ih135 =>
              intro j la S3 cap3 l135_5 l135_6 l135_7 hl135_5 hl135_6 hl135_7 hj hS3 hc3 hmu135
              refine g_aload_n (q := 136) B dX4_held_135 rfl rfl (rv_r _) ?_
              refine g_callF (q := 141) (is := [7]) (kc2 := 64 - cap3 - 2 * j) (ks2 := 170 - 2 * cap3 - 5 * j) B [] (ct_J31_hasNext_mv g J (i := i129) (t := ch) (f := f_c) (n := nc) (md := mm_c) (j := j) (la := la) hl135_7 ) dX4_held_136 rfl (ci := 33) rfl (rc_in B (ci := 33) rfl (k := 7) rfl (MItP.hm hl135_7)) q1171 q961 q954 q116 q956 q938 q937 q955 q962 q960 rfl rfl mojava_util_Iterator_hasNext___Z rfl rfl (by decide) (by decide) (Nat.le_of_ble_eq_true rfl) (by omega) (by omega) (fun _ _ hx => noX_x hx) (fun v136 L1 hp136 => ?_)
              obtain ⟨hb136, u0_136, rfl, rfl, hu0_136, hbi_136⟩ := hp136
              refine (show Go g κ 141 [some (.ref a), some (.ref n0), some (.ref i129), none, none, none] [.int (nI (if hb136 = true then 1 else 0))] [w4, [(it12, .inr (22, [.int (nI k), .int lr, .int md, .ref pl]))], w1, wc_2, [(a, .inr (2, [.int (nI (pNo r)), .ref ev, .ref pl, .int (oI (pEp r)), .int (nI (pLf r)), .ref nd, .int (nI (pOn r)), .int (nI (pKy r)), .ref ch, .int (oI (pRn r)), .ref x]))], l135_5, l135_6, u0_136] (64 - cap3 - 2 * j) (170 - 2 * cap3 - 5 * j) from ?_)
              refine g_if_eq (tgt := 213) (q := 144) B dX4_held_141 rfl (by decide) (bo_eq) (fun c141 => ?_) (fun c141 => ?_)
              · skip
                have hno141 := fun z => c141 (hbi_136.mpr z)
                have hS3e : ∀ x, S3 x = true ↔ ((S2 x = true ∨ x = pOn r) ∨ x = pKy r) ∨ ∃ n c, pCh r n = some c ∧ chH c x := by
                  intro x
                  rw [hS3 x, upT_e (fun ⟨q, h1, h2⟩ => hno141 ⟨q, h1, fun z => h2 ((MoE.iffB hl135_6 ho_c q).mp z)⟩)]
                obtain ⟨wz_3, wr_3, hpz_3, hmz_3⟩ := MItP.map hu0_136
                refine g_sub 7 rfl hpz_3 rfl ?_
                refine (show Go g κ 213 [some (.ref a), some (.ref n0), some (.ref i129), none, none, none] [] [w4, [(it12, .inr (22, [.int (nI k), .int lr, .int md, .ref pl]))], w1, wc_2, [(a, .inr (2, [.int (nI (pNo r)), .ref ev, .ref pl, .int (oI (pEp r)), .int (nI (pLf r)), .ref nd, .int (nI (pOn r)), .int (nI (pKy r)), .ref ch, .int (oI (pRn r)), .ref x]))], l135_5, l135_6, wz_3] (64 - cap3 - 2 * j) (170 - 2 * cap3 - 5 * j) from ?_)
                obtain ⟨wc_4, ewc_4⟩ : ∃ w : va_W, w = ([wz_3, l135_6] : List va_W).flatten := ⟨_, rfl⟩
                have hwc_4 : MoP g (ChnP g) ch (pCh r) nc wc_4 := by
                  rw [ewc_4]
                  exact ⟨_, _, _, _, hmz_3, ho_c, hl135_6, rfl⟩
                refine g_close (w := wc_4) [7, 6] rfl ewc_4 rfl ?_
                refine (show Go g κ 213 [some (.ref a), some (.ref n0), some (.ref i129), none, none, none] [] [w4, [(it12, .inr (22, [.int (nI k), .int lr, .int md, .ref pl]))], w1, wc_2, [(a, .inr (2, [.int (nI (pNo r)), .ref ev, .ref pl, .int (oI (pEp r)), .int (nI (pLf r)), .ref nd, .int (nI (pOn r)), .int (nI (pKy r)), .ref ch, .int (oI (pRn r)), .ref x]))], l135_5, wc_4] (64 - cap3 - 2 * j) (170 - 2 * cap3 - 5 * j) from ?_)
                refine g_fg 2 rfl ?_
                refine g_pk [4, 5, 0, 3, 1, 1] rfl rfl ?_
                refine (show Go g κ 213 [some (.ref a), some (.ref n0), none, none, none, none] [] [[(a, .inr (2, [.int (nI (pNo r)), .ref ev, .ref pl, .int (oI (pEp r)), .int (nI (pLf r)), .ref nd, .int (nI (pOn r)), .int (nI (pKy r)), .ref ch, .int (oI (pRn r)), .ref x]))], wc_4, w4, l135_5, w1, wc_2] (64 - cap3 - 2 * j) (170 - 2 * cap3 - 5 * j) from ?_)
                refine g_room (kc2 := 30 - cap3) (ks2 := 60 - 2 * cap3) (by omega) (by omega) ?_
                exact ct213 S3 cap3 wc_4 l135_5 hwc_4 hl135_5 (fun x => by rw [hS3e x, hS2e x, hS1e x]; exact hc_in c103) (by omega)
              · skip
                have c141 := Classical.not_not.mp c141
                have hne141 := hbi_136.mp c141
                refine g_aload_n (q := 145) B dX4_held_144 rfl rfl (rv_r _) ?_
                refine g_callF (q := 150) (is := [7]) (kc2 := 64 - cap3 - 2 * j) (ks2 := 170 - 2 * cap3 - 5 * j) B [] (ct_J34_next_m g J (i := i129) (t := ch) (f := f_c) (n := nc) (md := mm_c) (j := j) (la := la) hu0_136 (hne141)) dX4_held_145 rfl (ci := 33) rfl (rc_in B (ci := 33) rfl (k := 7) rfl (MItP.hm hu0_136)) q1173 q1042 q1044 q119 q1046 q966 q965 q1045 q1043 q960 rfl rfl mojava_util_Iterator_next___Ljava_lang_Object_ rfl rfl (by decide) (by decide) (Nat.le_of_ble_eq_true rfl) (by omega) (by omega) (fun _ _ hx => noX_x hx) (fun v145 L1 hp145 => ?_)
                obtain ⟨k145, v145, u0_145, rfl, rfl, hu0_145, hj_145, hk_145, hv_145, hbt_145⟩ := hp145
                refine (show Go g κ 150 [some (.ref a), some (.ref n0), some (.ref i129), none, none, none] [.ref v145] [w4, [(it12, .inr (22, [.int (nI k), .int lr, .int md, .ref pl]))], w1, wc_2, [(a, .inr (2, [.int (nI (pNo r)), .ref ev, .ref pl, .int (oI (pEp r)), .int (nI (pLf r)), .ref nd, .int (nI (pOn r)), .int (nI (pKy r)), .ref ch, .int (oI (pRn r)), .ref x]))], l135_5, l135_6, u0_145] (64 - cap3 - 2 * j) (170 - 2 * cap3 - 5 * j) from ?_)
                obtain ⟨rv145, hrv145, hsv145⟩ := MoE.at hl135_6 ho_c hv_145
                refine g_castRS (ci := 7) (q := 153) B rfl (rc_in B (ci := 7) rfl (k := 6) rfl (Sub.hm (hsv145) fun _ z => ChnP.hm z)) dX4_held_150 rfl q1210 ?_
                refine g_astore_n (q := 154) (lv2 := [some (.ref a), some (.ref n0), some (.ref i129), some (.ref v145), none, none]) B dX4_held_153 rfl (Nat.le_of_ble_eq_true rfl) (rv_r _) rfl ?_
                obtain ⟨rq145, y1, y2, y3, hrq145, hq145, -, hcl145, hye⟩ := BgM.opn hl135_6 ho_c hv_145
                refine g_open 6 rfl hye rfl ?_
                refine (show Go g κ 154 [some (.ref a), some (.ref n0), some (.ref i129), some (.ref v145), none, none] [] [w4, [(it12, .inr (22, [.int (nI k), .int lr, .int md, .ref pl]))], w1, wc_2, [(a, .inr (2, [.int (nI (pNo r)), .ref ev, .ref pl, .int (oI (pEp r)), .int (nI (pLf r)), .ref nd, .int (nI (pOn r)), .int (nI (pKy r)), .ref ch, .int (oI (pRn r)), .ref x]))], l135_5, u0_145, y1, y2, y3] (64 - cap3 - 2 * j) (170 - 2 * cap3 - 5 * j) from ?_)
                obtain ⟨hk16, hCb⟩ := hP.2.2.2.2.2.2.2.1 _ _ hrq145
                have hCb1 := hCb.1
                obtain ⟨lf_k, nl_k, v0_k, hC_k, hv0_k, rfl⟩ := hq145
                refine g_open 8 rfl rfl rfl ?_
                refine (show Go g κ 154 [some (.ref a), some (.ref n0), some (.ref i129), some (.ref v145), none, none] [] [w4, [(it12, .inr (22, [.int (nI k), .int lr, .int md, .ref pl]))], w1, wc_2, [(a, .inr (2, [.int (nI (pNo r)), .ref ev, .ref pl, .int (oI (pEp r)), .int (nI (pLf r)), .ref nd, .int (nI (pOn r)), .int (nI (pKy r)), .ref ch, .int (oI (pRn r)), .ref x]))], l135_5, u0_145, y1, y3, [(v145, .inr (7, [.int (nI rq145.1), .int (nI rq145.2.1), .ref lf_k]))], v0_k] (64 - cap3 - 2 * j) (170 - 2 * cap3 - 5 * j) from ?_)
                refine g_aload_n (q := 155) B dX4_held_154 rfl rfl (rv_r _) ?_
                refine g_aload_n (q := 156) B dX4_held_155 rfl rfl (rv_r _) ?_
                refine g_getN (q := 159) B (ci := 7) (k := 9) (j := 0) in_X12 rfl dX4_held_156 rfl rfl (Nat.le_of_ble_eq_true rfl) q2190 rfl rfl ?_
                have hcn3 := capN_b (m := rq145.1 / 64 + 1) hc3 (by have := hCb.1; omega)
                refine g_callV (q := 162) (is := [5]) (kc2 := (64 - cap3 - 2 * j) - (capN cap3 (rq145.1 / 64 + 1) - cap3)) (ks2 := (170 - 2 * cap3 - 5 * j) - (2 * (capN cap3 (rq145.1 / 64 + 1) - cap3))) B [.int (nI rq145.1)] (ct_J5_set g J (b := n0) (S := S3) (cap := cap3) (i := rq145.1) (mc := (capN cap3 (rq145.1 / 64 + 1) - cap3)) (ms := (2 * (capN cap3 (rq145.1 / 64 + 1) - cap3))) hl135_5 (by omega) (by omega) ((capN_b hc3 (by omega)).2.2)) dX4_held_159 rfl (rc_in B (ci := 26) rfl (k := 5) rfl (SetP.hm hl135_5)) rfl q1175 q1056 q1057 q84 q1058 rfl rfl moJ5_set rfl rfl (by decide) (by decide) (Nat.le_of_ble_eq_true rfl) (by omega) (by omega) (fun _ _ hx => noX_x hx) (fun v159 L1 hp159 => ?_)
                obtain ⟨u0_159, rfl, rfl, hu0_159⟩ := hp159
                refine (show Go g κ 162 [some (.ref a), some (.ref n0), some (.ref i129), some (.ref v145), none, none] [] [w4, [(it12, .inr (22, [.int (nI k), .int lr, .int md, .ref pl]))], w1, wc_2, [(a, .inr (2, [.int (nI (pNo r)), .ref ev, .ref pl, .int (oI (pEp r)), .int (nI (pLf r)), .ref nd, .int (nI (pOn r)), .int (nI (pKy r)), .ref ch, .int (oI (pRn r)), .ref x]))], u0_145, y1, y3, [(v145, .inr (7, [.int (nI rq145.1), .int (nI rq145.2.1), .ref lf_k]))], v0_k, u0_159] ((64 - cap3 - 2 * j) - (capN cap3 (rq145.1 / 64 + 1) - cap3)) ((170 - 2 * cap3 - 5 * j) - (2 * (capN cap3 (rq145.1 / 64 + 1) - cap3))) from ?_)
                refine g_aload_n (q := 163) B dX4_held_162 rfl rfl (rv_r _) ?_
                refine g_getN (q := 166) B (ci := 7) (k := 8) (j := 2) in_X12 rfl dX4_held_163 rfl rfl (Nat.le_of_ble_eq_true rfl) q2194 rfl rfl ?_
                obtain ⟨f_l, mm_l, wm_l, wb_l, hm_l, ho_l, hb_l, he_l⟩ := hv0_k
                refine g_open 9 rfl he_l rfl ?_
                refine (show Go g κ 166 [some (.ref a), some (.ref n0), some (.ref i129), some (.ref v145), none, none] [.ref lf_k] [w4, [(it12, .inr (22, [.int (nI k), .int lr, .int md, .ref pl]))], w1, wc_2, [(a, .inr (2, [.int (nI (pNo r)), .ref ev, .ref pl, .int (oI (pEp r)), .int (nI (pLf r)), .ref nd, .int (nI (pOn r)), .int (nI (pKy r)), .ref ch, .int (oI (pRn r)), .ref x]))], u0_145, y1, y3, [(v145, .inr (7, [.int (nI rq145.1), .int (nI rq145.2.1), .ref lf_k]))], u0_159, wm_l, wb_l] ((64 - cap3 - 2 * j) - (capN cap3 (rq145.1 / 64 + 1) - cap3)) ((170 - 2 * cap3 - 5 * j) - (2 * (capN cap3 (rq145.1 / 64 + 1) - cap3))) from ?_)
                refine g_callV (q := 169) (is := [10]) (kc2 := ((64 - cap3 - 2 * j) - (capN cap3 (rq145.1 / 64 + 1) - cap3)) - 1) (ks2 := ((170 - 2 * cap3 - 5 * j) - (2 * (capN cap3 (rq145.1 / 64 + 1) - cap3))) - 1) B [] (ct_J10_values_m g J (t := lf_k) (f := f_l) (n := nl_k) (md := mm_l) hm_l ) dX4_held_166 rfl (rc_in B (ci := 27) rfl (k := 10) rfl (MapP.hm hm_l)) rfl q1176 q1177 q1178 q91 q1179 rfl rfl moJ10_values rfl rfl (by decide) (by decide) (Nat.le_of_ble_eq_true rfl) (by omega) (by omega) (fun _ _ hx => noX_x hx) (fun v166 L1 hp166 => ?_)
                obtain ⟨y166, u0_166, rfl, rfl, hu0_166⟩ := hp166
                refine (show Go g κ 169 [some (.ref a), some (.ref n0), some (.ref i129), some (.ref v145), none, none] [.ref y166] [w4, [(it12, .inr (22, [.int (nI k), .int lr, .int md, .ref pl]))], w1, wc_2, [(a, .inr (2, [.int (nI (pNo r)), .ref ev, .ref pl, .int (oI (pEp r)), .int (nI (pLf r)), .ref nd, .int (nI (pOn r)), .int (nI (pKy r)), .ref ch, .int (oI (pRn r)), .ref x]))], u0_145, y1, y3, [(v145, .inr (7, [.int (nI rq145.1), .int (nI rq145.2.1), .ref lf_k]))], u0_159, wb_l, u0_166] (((64 - cap3 - 2 * j) - (capN cap3 (rq145.1 / 64 + 1) - cap3)) - 1) (((170 - 2 * cap3 - 5 * j) - (2 * (capN cap3 (rq145.1 / 64 + 1) - cap3))) - 1) from ?_)
                refine g_callF (q := 174) (is := [11]) (kc2 := ((64 - cap3 - 2 * j) - (capN cap3 (rq145.1 / 64 + 1) - cap3)) - 2) (ks2 := ((170 - 2 * cap3 - 5 * j) - (2 * (capN cap3 (rq145.1 / 64 + 1) - cap3))) - 5) B [] (ct_J28_iterator_m g J (y := y166) (t := lf_k) (f := f_l) (n := nl_k) (md := mm_l) hu0_166 ) dX4_held_169 rfl (ci := 29) rfl (rc_in B (ci := 29) rfl (k := 11) rfl (MvP.hm hu0_166)) q1191 q1203 q920 q113 q922 q1193 q1192 q921 q919 q1202 rfl rfl mojava_util_Collection_iterator___Ljava_util_Iterator_ rfl rfl (by decide) (by decide) (Nat.le_of_ble_eq_true rfl) (by omega) (by omega) (fun _ _ hx => noX_x hx) (fun v169 L1 hp169 => ?_)
                obtain ⟨i169, u0_169, rfl, rfl, hu0_169⟩ := hp169
                refine (show Go g κ 174 [some (.ref a), some (.ref n0), some (.ref i129), some (.ref v145), none, none] [.ref i169] [w4, [(it12, .inr (22, [.int (nI k), .int lr, .int md, .ref pl]))], w1, wc_2, [(a, .inr (2, [.int (nI (pNo r)), .ref ev, .ref pl, .int (oI (pEp r)), .int (nI (pLf r)), .ref nd, .int (nI (pOn r)), .int (nI (pKy r)), .ref ch, .int (oI (pRn r)), .ref x]))], u0_145, y1, y3, [(v145, .inr (7, [.int (nI rq145.1), .int (nI rq145.2.1), .ref lf_k]))], u0_159, wb_l, u0_169] (((64 - cap3 - 2 * j) - (capN cap3 (rq145.1 / 64 + 1) - cap3)) - 2) (((170 - 2 * cap3 - 5 * j) - (2 * (capN cap3 (rq145.1 / 64 + 1) - cap3))) - 5) from ?_)
                refine g_astore (q := 176) (lv2 := [some (.ref a), some (.ref n0), some (.ref i129), some (.ref v145), some (.ref i169), none]) B dX4_held_174 rfl (Nat.le_of_ble_eq_true rfl) (rv_r _) rfl ?_
                have lp176 : ∀ (n176 : Nat) (j2 : Nat) (la2 : Option Nat) (S4 : Nat → Bool) (cap4 : Nat) (l176_9 : va_W) (l176_11 : va_W), SetP g n0 S4 cap4 l176_9 → MItP g 33 i169 lf_k f_l nl_k mm_l j2 la2 l176_11 → (j2 ≤ 128) → (∀ x, S4 x = true ↔ (S3 x = true ∨ x = rq145.1) ∨ upT rq145.2.2 (fun n x => x = n) j2 x) → (cap4 ≤ 30) → 128 - j2 = n176 → Go g κ 176 [some (.ref a), some (.ref n0), some (.ref i129), some (.ref v145), some (.ref i169), none] [] [w4, [(it12, .inr (22, [.int (nI k), .int lr, .int md, .ref pl]))], w1, wc_2, [(a, .inr (2, [.int (nI (pNo r)), .ref ev, .ref pl, .int (oI (pEp r)), .int (nI (pLf r)), .ref nd, .int (nI (pOn r)), .int (nI (pKy r)), .ref ch, .int (oI (pRn r)), .ref x]))], u0_145, y1, y3, [(v145, .inr (7, [.int (nI rq145.1), .int (nI rq145.2.1), .ref lf_k]))], l176_9, wb_l, l176_11] (62 - cap4 - 2 * j) (165 - 2 * cap4 - 5 * j) := by
                  intro n176
                  induction n176 using Nat.strongRecOn with
                  | _ n176 ih176 =>
                  intro j2 la2 S4 cap4 l176_9 l176_11 hl176_9 hl176_11 hj2 hS4 hc4 hmu176
                  refine g_aload (q := 178) B dX4_held_176 rfl rfl (rv_r _) ?_
                  refine g_callF (q := 183) (is := [11]) (kc2 := 62 - cap4 - 2 * j) (ks2 := 165 - 2 * cap4 - 5 * j) B [] (ct_J31_hasNext_mv g J (i := i169) (t := lf_k) (f := f_l) (n := nl_k) (md := mm_l) (j := j2) (la := la2) hl176_11 ) dX4_held_178 rfl (ci := 33) rfl (rc_in B (ci := 33) rfl (k := 11) rfl (MItP.hm hl176_11)) q1171 q961 q954 q116 q956 q938 q937 q955 q962 q960 rfl rfl mojava_util_Iterator_hasNext___Z rfl rfl (by decide) (by decide) (Nat.le_of_ble_eq_true rfl) (by omega) (by omega) (fun _ _ hx => noX_x hx) (fun v178 L1 hp178 => ?_)
                  obtain ⟨hb178, u0_178, rfl, rfl, hu0_178, hbi_178⟩ := hp178
                  refine (show Go g κ 183 [some (.ref a), some (.ref n0), some (.ref i129), some (.ref v145), some (.ref i169), none] [.int (nI (if hb178 = true then 1 else 0))] [w4, [(it12, .inr (22, [.int (nI k), .int lr, .int md, .ref pl]))], w1, wc_2, [(a, .inr (2, [.int (nI (pNo r)), .ref ev, .ref pl, .int (oI (pEp r)), .int (nI (pLf r)), .ref nd, .int (nI (pOn r)), .int (nI (pKy r)), .ref ch, .int (oI (pRn r)), .ref x]))], u0_145, y1, y3, [(v145, .inr (7, [.int (nI rq145.1), .int (nI rq145.2.1), .ref lf_k]))], l176_9, wb_l, u0_178] (62 - cap4 - 2 * j) (165 - 2 * cap4 - 5 * j) from ?_)
                  refine g_if_eq (tgt := 210) (q := 186) B dX4_held_183 rfl (by decide) (bo_eq) (fun c183 => ?_) (fun c183 => ?_)
                  · skip
                    have hno183 := fun z => c183 (hbi_178.mpr z)
                    have hS4e : ∀ x, S4 x = true ↔ S3 x = true ∨ chH rq145 x := by
                      intro x
                      rw [hS4 x, upT_e (fun ⟨q, h1, h2⟩ => hno183 ⟨q, h1, fun z => h2 ((MoE.iffB hb_l ho_l q).mp z)⟩), or_assoc]
                      refine or_congr_right ?_
                      unfold chH
                      exact or_congr_right ⟨fun ⟨n, c, h1, h2⟩ => ⟨n, by rw [h2]; exact h1⟩, fun ⟨n, h⟩ => ⟨n, x, h, rfl⟩⟩
                    obtain ⟨wz_5, wr_5, hpz_5, hmz_5⟩ := MItP.map hu0_178
                    refine g_sub 11 rfl hpz_5 rfl ?_
                    refine (show Go g κ 210 [some (.ref a), some (.ref n0), some (.ref i129), some (.ref v145), some (.ref i169), none] [] [w4, [(it12, .inr (22, [.int (nI k), .int lr, .int md, .ref pl]))], w1, wc_2, [(a, .inr (2, [.int (nI (pNo r)), .ref ev, .ref pl, .int (oI (pEp r)), .int (nI (pLf r)), .ref nd, .int (nI (pOn r)), .int (nI (pKy r)), .ref ch, .int (oI (pRn r)), .ref x]))], u0_145, y1, y3, [(v145, .inr (7, [.int (nI rq145.1), .int (nI rq145.2.1), .ref lf_k]))], l176_9, wb_l, wz_5] (62 - cap4 - 2 * j) (165 - 2 * cap4 - 5 * j) from ?_)
                    obtain ⟨wc_6, ewc_6⟩ : ∃ w : va_W, w = ([wz_5, wb_l] : List va_W).flatten := ⟨_, rfl⟩
                    have hwc_6 : MoP g (BxE g) lf_k rq145.2.2 nl_k wc_6 := by
                      rw [ewc_6]
                      exact ⟨_, _, _, _, hmz_5, ho_l, hb_l, rfl⟩
                    refine g_close (w := wc_6) [11, 10] rfl ewc_6 rfl ?_
                    refine (show Go g κ 210 [some (.ref a), some (.ref n0), some (.ref i129), some (.ref v145), some (.ref i169), none] [] [w4, [(it12, .inr (22, [.int (nI k), .int lr, .int md, .ref pl]))], w1, wc_2, [(a, .inr (2, [.int (nI (pNo r)), .ref ev, .ref pl, .int (oI (pEp r)), .int (nI (pLf r)), .ref nd, .int (nI (pOn r)), .int (nI (pKy r)), .ref ch, .int (oI (pRn r)), .ref x]))], u0_145, y1, y3, [(v145, .inr (7, [.int (nI rq145.1), .int (nI rq145.2.1), .ref lf_k]))], l176_9, wc_6] (62 - cap4 - 2 * j) (165 - 2 * cap4 - 5 * j) from ?_)
                    obtain ⟨wc_7, ewc_7⟩ : ∃ w : va_W, w = ([[(v145, .inr (7, [.int (nI rq145.1), .int (nI rq145.2.1), .ref lf_k]))], wc_6] : List va_W).flatten := ⟨_, rfl⟩
                    have hwc_7 : ChnP g v145 rq145 wc_7 := by
                      rw [ewc_7]
                      exact ⟨lf_k, nl_k, _, hC_k, hwc_6, rfl⟩
                    refine g_close (w := wc_7) [8, 9] rfl ewc_7 rfl ?_
                    refine (show Go g κ 210 [some (.ref a), some (.ref n0), some (.ref i129), some (.ref v145), some (.ref i169), none] [] [w4, [(it12, .inr (22, [.int (nI k), .int lr, .int md, .ref pl]))], w1, wc_2, [(a, .inr (2, [.int (nI (pNo r)), .ref ev, .ref pl, .int (oI (pEp r)), .int (nI (pLf r)), .ref nd, .int (nI (pOn r)), .int (nI (pKy r)), .ref ch, .int (oI (pRn r)), .ref x]))], u0_145, y1, y3, l176_9, wc_7] (62 - cap4 - 2 * j) (165 - 2 * cap4 - 5 * j) from ?_)
                    obtain ⟨wc_8, ewc_8⟩ : ∃ w : va_W, w = ([y1, wc_7, y3] : List va_W).flatten := ⟨_, rfl⟩
                    have hwc_8 : BgM (ChnP g) f_c (pCh r) wc_8 := by
                      rw [ewc_8]
                      exact hcl145 _ hwc_7
                    refine g_close (w := wc_8) [6, 8, 6] rfl ewc_8 rfl ?_
                    refine (show Go g κ 210 [some (.ref a), some (.ref n0), some (.ref i129), some (.ref v145), some (.ref i169), none] [] [w4, [(it12, .inr (22, [.int (nI k), .int lr, .int md, .ref pl]))], w1, wc_2, [(a, .inr (2, [.int (nI (pNo r)), .ref ev, .ref pl, .int (oI (pEp r)), .int (nI (pLf r)), .ref nd, .int (nI (pOn r)), .int (nI (pKy r)), .ref ch, .int (oI (pRn r)), .ref x]))], u0_145, l176_9, wc_8] (62 - cap4 - 2 * j) (165 - 2 * cap4 - 5 * j) from ?_)
                    refine g_goto (tgt := 135) B dX4_held_210 (by decide) ?_
                    refine g_fg 3 rfl ?_
                    refine g_fg 4 rfl ?_
                    refine g_pk [0, 0, 0, 0, 0, 1, 1, 0] rfl rfl ?_
                    refine (show Go g κ 135 [some (.ref a), some (.ref n0), some (.ref i129), none, none, none] [] [w4, [(it12, .inr (22, [.int (nI k), .int lr, .int md, .ref pl]))], w1, wc_2, [(a, .inr (2, [.int (nI (pNo r)), .ref ev, .ref pl, .int (oI (pEp r)), .int (nI (pLf r)), .ref nd, .int (nI (pOn r)), .int (nI (pKy r)), .ref ch, .int (oI (pRn r)), .ref x]))], l176_9, wc_8, u0_145] (62 - cap4 - 2 * j) (165 - 2 * cap4 - 5 * j) from ?_)
                    refine g_room (kc2 := 64 - cap4 - 2 * (k145 + 1)) (ks2 := 170 - 2 * cap4 - 5 * (k145 + 1)) (by omega) (by omega) ?_
                    exact ih135 _ (by omega) (k145 + 1) (some k145) S4 cap4 l176_9 wc_8 u0_145 hl176_9 hwc_8 hu0_145 (by omega) (fun x => by rw [hS4e x, hS3 x, upT_s hj_145 hrq145 (fun q h1 h2 => (MoE.iffB hwc_8 ho_c q).mp (hbt_145 q h1 h2)), or_assoc]) (by omega) rfl
                  · skip
                    have c183 := Classical.not_not.mp c183
                    have hne183 := hbi_178.mp c183
                    refine g_aload (q := 188) B dX4_held_186 rfl rfl (rv_r _) ?_
                    refine g_callF (q := 193) (is := [11]) (kc2 := 62 - cap4 - 2 * j) (ks2 := 165 - 2 * cap4 - 5 * j) B [] (ct_J34_next_m g J (i := i169) (t := lf_k) (f := f_l) (n := nl_k) (md := mm_l) (j := j2) (la := la2) hu0_178 (hne183)) dX4_held_188 rfl (ci := 33) rfl (rc_in B (ci := 33) rfl (k := 11) rfl (MItP.hm hu0_178)) q1173 q1042 q1044 q119 q1046 q966 q965 q1045 q1043 q960 rfl rfl mojava_util_Iterator_next___Ljava_lang_Object_ rfl rfl (by decide) (by decide) (Nat.le_of_ble_eq_true rfl) (by omega) (by omega) (fun _ _ hx => noX_x hx) (fun v188 L1 hp188 => ?_)
                    obtain ⟨k188, v188, u0_188, rfl, rfl, hu0_188, hj_188, hk_188, hv_188, hbt_188⟩ := hp188
                    refine (show Go g κ 193 [some (.ref a), some (.ref n0), some (.ref i129), some (.ref v145), some (.ref i169), none] [.ref v188] [w4, [(it12, .inr (22, [.int (nI k), .int lr, .int md, .ref pl]))], w1, wc_2, [(a, .inr (2, [.int (nI (pNo r)), .ref ev, .ref pl, .int (oI (pEp r)), .int (nI (pLf r)), .ref nd, .int (nI (pOn r)), .int (nI (pKy r)), .ref ch, .int (oI (pRn r)), .ref x]))], u0_145, y1, y3, [(v145, .inr (7, [.int (nI rq145.1), .int (nI rq145.2.1), .ref lf_k]))], l176_9, wb_l, u0_188] (62 - cap4 - 2 * j) (165 - 2 * cap4 - 5 * j) from ?_)
                    obtain ⟨rv188, hrv188, hsv188⟩ := MoE.at hb_l ho_l hv_188
                    have hbv188 := Sub.box hsv188
                    have hb188 := hCb.2.2 _ _ hrv188
                    refine g_castRS (ci := 35) (q := 196) B rfl (rc_bxat B J (k := 10) rfl hbv188) dX4_held_193 rfl q1204 ?_
                    refine g_callV (q := 199) (is := [10]) (kc2 := 62 - cap4 - 2 * j) (ks2 := 165 - 2 * cap4 - 5 * j) B [] (ct_J26_intValue_b g J (a := v188) (v := nI rv188) (wb := wb_l)  (hbv188)) dX4_held_196 rfl (rc_bxat B J (k := 10) rfl hbv188) rfl q1205 q1052 q1053 q111 q1054 rfl rfl moJ26_intValue rfl rfl (by decide) (by decide) (Nat.le_of_ble_eq_true rfl) (by omega) (by omega) (fun _ _ hx => noX_x hx) (fun v196 L1 hp196 => ?_)
                    obtain ⟨rfl, rfl⟩ := hp196
                    refine (show Go g κ 199 [some (.ref a), some (.ref n0), some (.ref i129), some (.ref v145), some (.ref i169), none] [.int (nI rv188)] [w4, [(it12, .inr (22, [.int (nI k), .int lr, .int md, .ref pl]))], w1, wc_2, [(a, .inr (2, [.int (nI (pNo r)), .ref ev, .ref pl, .int (oI (pEp r)), .int (nI (pLf r)), .ref nd, .int (nI (pOn r)), .int (nI (pKy r)), .ref ch, .int (oI (pRn r)), .ref x]))], u0_145, y1, y3, [(v145, .inr (7, [.int (nI rq145.1), .int (nI rq145.2.1), .ref lf_k]))], l176_9, u0_188, wb_l] (62 - cap4 - 2 * j) (165 - 2 * cap4 - 5 * j) from ?_)
                    refine g_istore (q := 201) (lv2 := [some (.ref a), some (.ref n0), some (.ref i129), some (.ref v145), some (.ref i169), some (.int (nI rv188))]) B dX4_held_199 rfl (Nat.le_of_ble_eq_true rfl) rfl ?_
                    refine g_aload_n (q := 202) B dX4_held_201 rfl rfl (rv_r _) ?_
                    refine g_iload (q := 204) B dX4_held_202 rfl rfl ?_
                    have hcn4 := capN_b (m := rv188 / 64 + 1) hc4 (by omega)
                    refine g_callV (q := 207) (is := [9]) (kc2 := (62 - cap4 - 2 * j) - (capN cap4 (rv188 / 64 + 1) - cap4)) (ks2 := (165 - 2 * cap4 - 5 * j) - (2 * (capN cap4 (rv188 / 64 + 1) - cap4))) B [.int (nI rv188)] (ct_J5_set g J (b := n0) (S := S4) (cap := cap4) (i := rv188) (mc := (capN cap4 (rv188 / 64 + 1) - cap4)) (ms := (2 * (capN cap4 (rv188 / 64 + 1) - cap4))) hl176_9 (by omega) (by omega) ((capN_b hc4 (by omega)).2.2)) dX4_held_204 rfl (rc_in B (ci := 26) rfl (k := 9) rfl (SetP.hm hl176_9)) rfl q1175 q1056 q1057 q84 q1058 rfl rfl moJ5_set rfl rfl (by decide) (by decide) (Nat.le_of_ble_eq_true rfl) (by omega) (by omega) (fun _ _ hx => noX_x hx) (fun v204 L1 hp204 => ?_)
                    obtain ⟨u0_204, rfl, rfl, hu0_204⟩ := hp204
                    refine (show Go g κ 207 [some (.ref a), some (.ref n0), some (.ref i129), some (.ref v145), some (.ref i169), some (.int (nI rv188))] [] [w4, [(it12, .inr (22, [.int (nI k), .int lr, .int md, .ref pl]))], w1, wc_2, [(a, .inr (2, [.int (nI (pNo r)), .ref ev, .ref pl, .int (oI (pEp r)), .int (nI (pLf r)), .ref nd, .int (nI (pOn r)), .int (nI (pKy r)), .ref ch, .int (oI (pRn r)), .ref x]))], u0_145, y1, y3, [(v145, .inr (7, [.int (nI rq145.1), .int (nI rq145.2.1), .ref lf_k]))], u0_188, wb_l, u0_204] ((62 - cap4 - 2 * j) - (capN cap4 (rv188 / 64 + 1) - cap4)) ((165 - 2 * cap4 - 5 * j) - (2 * (capN cap4 (rv188 / 64 + 1) - cap4))) from ?_)
                    refine g_goto (tgt := 176) B dX4_held_207 (by decide) ?_
                    refine g_fg 5 rfl ?_
                    refine g_pk [0, 0, 0, 0, 0, 0, 0, 0, 0, 2, 1, 0] rfl rfl ?_
                    refine (show Go g κ 176 [some (.ref a), some (.ref n0), some (.ref i129), some (.ref v145), some (.ref i169), none] [] [w4, [(it12, .inr (22, [.int (nI k), .int lr, .int md, .ref pl]))], w1, wc_2, [(a, .inr (2, [.int (nI (pNo r)), .ref ev, .ref pl, .int (oI (pEp r)), .int (nI (pLf r)), .ref nd, .int (nI (pOn r)), .int (nI (pKy r)), .ref ch, .int (oI (pRn r)), .ref x]))], u0_145, y1, y3, [(v145, .inr (7, [.int (nI rq145.1), .int (nI rq145.2.1), .ref lf_k]))], u0_204, wb_l, u0_188] ((62 - cap4 - 2 * j) - (capN cap4 (rv188 / 64 + 1) - cap4)) ((165 - 2 * cap4 - 5 * j) - (2 * (capN cap4 (rv188 / 64 + 1) - cap4))) from ?_)
                    refine g_room (kc2 := 62 - (capN cap4 (rv188 / 64 + 1)) - 2 * j) (ks2 := 165 - 2 * (capN cap4 (rv188 / 64 + 1)) - 5 * j) (by omega) (by omega) ?_
                    exact ih176 _ (by omega) (k188 + 1) (some k188) (sIns S4 rv188) (capN cap4 (rv188 / 64 + 1)) u0_204 u0_188 hu0_204 hu0_188 (by omega) (fun x => by rw [sIns_iff, hS4, upT_s hj_188 hrv188 (fun q h1 h2 => (MoE.iffB hb_l ho_l q).mp (hbt_188 q h1 h2)), or_assoc]) (by omega) rfl
                refine g_room (kc2 := 62 - (capN cap3 (rq145.1 / 64 + 1)) - 2 * j) (ks2 := 165 - 2 * (capN cap3 (rq145.1 / 64 + 1)) - 5 * j) (by omega) (by omega) ?_
                exact lp176 _ 0 none (sIns S3 rq145.1) (capN cap3 (rq145.1 / 64 + 1)) u0_159 u0_169 hu0_159 hu0_169 (Nat.zero_le _) (fun x => by rw [sIns_iff]; exact ⟨Or.inl, fun h => h.elim id fun z => absurd z upT_0⟩) (by omega) rfl
            refine g_room (kc2 := 64 - (capN (capN cap2 ((pOn r) / 64 + 1)) ((pKy r) / 64 + 1)) - 2 * 0) (ks2 := 170 - 2 * (capN (capN cap2 ((pOn r) / 64 + 1)) ((pKy r) / 64 + 1)) - 5 * 0) (by omega) (by omega) ?_
            exact lp135 _ 0 none (sIns (sIns S2 (pOn r)) (pKy r)) (capN (capN cap2 ((pOn r) / 64 + 1)) ((pKy r) / 64 + 1)) u0_119 wb_c u0_129 hu0_119 hb_c hu0_129 (Nat.zero_le _) (fun x => by rw [sIns_iff, sIns_iff]; exact ⟨Or.inl, fun h => h.elim id fun z => absurd z upT_0⟩) (by omega) rfl
        · skip
          have c75 := Classical.not_not.mp c75
          have hne75 := hbi_70.mp c75
          refine g_aload_n (q := 79) B dX4_held_78 rfl rfl (rv_r _) ?_
          refine g_callF (q := 84) (is := [7]) (kc2 := 67 - cap2) (ks2 := 190 - 2 * cap2) B [] (ct_J34_next_m g J (i := i63) (t := nd) (f := f_n) (n := nn) (md := mm_n) (j := j) (la := la) hu0_70 (hne75)) dX4_held_79 rfl (ci := 33) rfl (rc_in B (ci := 33) rfl (k := 7) rfl (MItP.hm hu0_70)) q1173 q1042 q1044 q119 q1046 q966 q965 q1045 q1043 q960 rfl rfl mojava_util_Iterator_next___Ljava_lang_Object_ rfl rfl (by decide) (by decide) (Nat.le_of_ble_eq_true rfl) (by omega) (by omega) (fun _ _ hx => noX_x hx) (fun v79 L1 hp79 => ?_)
          obtain ⟨k79, v79, u0_79, rfl, rfl, hu0_79, hj_79, hk_79, hv_79, hbt_79⟩ := hp79
          refine (show Go g κ 84 [some (.ref a), some (.ref n0), some (.ref i63), none, none, none] [.ref v79] [[(a, .inr (2, [.int (nI (pNo r)), .ref ev, .ref pl, .int (oI (pEp r)), .int (nI (pLf r)), .ref nd, .int (nI (pOn r)), .int (nI (pKy r)), .ref ch, .int (oI (pRn r)), .ref x]))], w3, w4, l69_3, [(it12, .inr (22, [.int (nI k), .int lr, .int md, .ref pl]))], w1, wb_n, u0_79] (67 - cap2) (190 - 2 * cap2) from ?_)
          obtain ⟨rv79, hrv79, hsv79⟩ := MoE.at hb_n ho_n hv_79
          have hbv79 := Sub.box hsv79
          have hb79 := hP.2.2.2.2.2.2.1 _ _ hrv79
          refine g_castRS (ci := 35) (q := 87) B rfl (rc_bxat B J (k := 6) rfl hbv79) dX4_held_84 rfl q1204 ?_
          refine g_callV (q := 90) (is := [6]) (kc2 := 67 - cap2) (ks2 := 190 - 2 * cap2) B [] (ct_J26_intValue_b g J (a := v79) (v := nI rv79) (wb := wb_n)  (hbv79)) dX4_held_87 rfl (rc_bxat B J (k := 6) rfl hbv79) rfl q1205 q1052 q1053 q111 q1054 rfl rfl moJ26_intValue rfl rfl (by decide) (by decide) (Nat.le_of_ble_eq_true rfl) (by omega) (by omega) (fun _ _ hx => noX_x hx) (fun v87 L1 hp87 => ?_)
          obtain ⟨rfl, rfl⟩ := hp87
          refine (show Go g κ 90 [some (.ref a), some (.ref n0), some (.ref i63), none, none, none] [.int (nI rv79)] [[(a, .inr (2, [.int (nI (pNo r)), .ref ev, .ref pl, .int (oI (pEp r)), .int (nI (pLf r)), .ref nd, .int (nI (pOn r)), .int (nI (pKy r)), .ref ch, .int (oI (pRn r)), .ref x]))], w3, w4, l69_3, [(it12, .inr (22, [.int (nI k), .int lr, .int md, .ref pl]))], w1, u0_79, wb_n] (67 - cap2) (190 - 2 * cap2) from ?_)
          refine g_istore_n (q := 91) (lv2 := [some (.ref a), some (.ref n0), some (.ref i63), some (.int (nI rv79)), none, none]) B dX4_held_90 rfl (Nat.le_of_ble_eq_true rfl) rfl ?_
          refine g_aload_n (q := 92) B dX4_held_91 rfl rfl (rv_r _) ?_
          refine g_iload_n (q := 93) B dX4_held_92 rfl rfl ?_
          have hcn := capN_b (m := rv79 / 64 + 1) hc2 (by omega)
          refine g_callV (q := 96) (is := [3]) (kc2 := (67 - cap2) - (capN cap2 (rv79 / 64 + 1) - cap2)) (ks2 := (190 - 2 * cap2) - (2 * (capN cap2 (rv79 / 64 + 1) - cap2))) B [.int (nI rv79)] (ct_J5_set g J (b := n0) (S := S2) (cap := cap2) (i := rv79) (mc := (capN cap2 (rv79 / 64 + 1) - cap2)) (ms := (2 * (capN cap2 (rv79 / 64 + 1) - cap2))) hl69_3 (by omega) (by omega) ((capN_b hc2 (by omega)).2.2)) dX4_held_93 rfl (rc_in B (ci := 26) rfl (k := 3) rfl (SetP.hm hl69_3)) rfl q1175 q1056 q1057 q84 q1058 rfl rfl moJ5_set rfl rfl (by decide) (by decide) (Nat.le_of_ble_eq_true rfl) (by omega) (by omega) (fun _ _ hx => noX_x hx) (fun v93 L1 hp93 => ?_)
          obtain ⟨u0_93, rfl, rfl, hu0_93⟩ := hp93
          refine (show Go g κ 96 [some (.ref a), some (.ref n0), some (.ref i63), some (.int (nI rv79)), none, none] [] [[(a, .inr (2, [.int (nI (pNo r)), .ref ev, .ref pl, .int (oI (pEp r)), .int (nI (pLf r)), .ref nd, .int (nI (pOn r)), .int (nI (pKy r)), .ref ch, .int (oI (pRn r)), .ref x]))], w3, w4, [(it12, .inr (22, [.int (nI k), .int lr, .int md, .ref pl]))], w1, u0_79, wb_n, u0_93] ((67 - cap2) - (capN cap2 (rv79 / 64 + 1) - cap2)) ((190 - 2 * cap2) - (2 * (capN cap2 (rv79 / 64 + 1) - cap2))) from ?_)
          refine g_goto (tgt := 69) B dX4_held_96 (by decide) ?_
          refine g_fg 3 rfl ?_
          refine g_pk [0, 0, 0, 4, 0, 0, 1, 0] rfl rfl ?_
          refine (show Go g κ 69 [some (.ref a), some (.ref n0), some (.ref i63), none, none, none] [] [[(a, .inr (2, [.int (nI (pNo r)), .ref ev, .ref pl, .int (oI (pEp r)), .int (nI (pLf r)), .ref nd, .int (nI (pOn r)), .int (nI (pKy r)), .ref ch, .int (oI (pRn r)), .ref x]))], w3, w4, u0_93, [(it12, .inr (22, [.int (nI k), .int lr, .int md, .ref pl]))], w1, wb_n, u0_79] ((67 - cap2) - (capN cap2 (rv79 / 64 + 1) - cap2)) ((190 - 2 * cap2) - (2 * (capN cap2 (rv79 / 64 + 1) - cap2))) from ?_)
          refine g_room (kc2 := 67 - (capN cap2 (rv79 / 64 + 1))) (ks2 := 190 - 2 * (capN cap2 (rv79 / 64 + 1))) (by omega) (by omega) ?_
          exact ih69 _ (by omega) (k79 + 1) (some k79) (sIns S2 rv79) (capN cap2 (rv79 / 64 + 1)) u0_93 u0_79 hu0_93 hu0_79 (by omega) (fun x => by rw [sIns_iff, hS2, upT_s hj_79 hrv79 (fun q h1 h2 => (MoE.iffB hb_n ho_n q).mp (hbt_79 q h1 h2)), or_assoc]) (by omega) rfl
      refine g_room (kc2 := 67 - cap1) (ks2 := 190 - 2 * cap1) (by omega) (by omega) ?_
      exact lp69 _ 0 none S1 cap1 l18_4 u0_63 hl18_4 hu0_63 (Nat.zero_le _) (fun x => ⟨Or.inl, fun h => h.elim id fun z => absurd z upT_0⟩) (hc1) rfl
    · skip
      have c24 := Classical.not_not.mp c24
      refine g_aload_n (q := 28) B dX4_held_27 rfl rfl (rv_r _) ?_
      obtain ⟨id, hid⟩ := get_ex (xs := pPk r) (i := k) (by have := hpa.1; omega)
      obtain ⟨pa, hpp, hpk⟩ := hpa.2 k id hid
      obtain ⟨md_9, hli_9, hln_9, hel_9⟩ := LoP.at (Sub.self hw4)
      obtain ⟨q, hq⟩ := get_ex (xs := Ks) (i := id) (hkb id (List.mem_of_getElem? hid))
      have hE_10 := hel_9 _ _ _ hpk hq
      obtain ⟨hq1, hq2, hq3, hq4⟩ := (PackP.at (hE_10)).1
      refine g_callF (q := 33) (is := [5, 5]) (kc2 := 72 - cap1) (ks2 := 200 - 2 * cap1) B [] (ct_J19_next g J (p := pl) (xs := plc) (md := md) (cap := pcap) (it := it12) (c := k) (lr := lr) (x := pa) hw1 (hpp)) dX4_held_28 rfl (ci := 22) rfl (rc_at B (ci := 22) rfl (k := 5) rfl) q1173 q967 q969 q104 q971 q966 q965 q970 q968 q939 rfl rfl mojava_util_Iterator_next___Ljava_lang_Object_ rfl rfl (by decide) (by decide) (Nat.le_of_ble_eq_true rfl) (by omega) (by omega) (fun _ _ hx => noX_x hx) (fun v28 L1 hp28 => ?_)
      obtain ⟨rfl, rfl⟩ := hp28
      refine (show Go g κ 33 [some (.ref a), some (.ref n0), some (.ref it12), none, none, none] [.ref pa] [[(a, .inr (2, [.int (nI (pNo r)), .ref ev, .ref pl, .int (oI (pEp r)), .int (nI (pLf r)), .ref nd, .int (nI (pOn r)), .int (nI (pKy r)), .ref ch, .int (oI (pRn r)), .ref x]))], w2, w3, w4, l18_4, [(it12, .inr (22, [.int (nI (k + 1)), .int (nI k), .int md, .ref pl]))], w1] (72 - cap1) (200 - 2 * cap1) from ?_)
      refine g_castRS (ci := 4) (q := 36) B rfl (rc_in B (ci := 4) rfl (k := 3) rfl (Sub.hm (hE_10) fun _ z => PackP.hm z)) dX4_held_33 rfl q1174 ?_
      refine g_astore_n (q := 37) (lv2 := [some (.ref a), some (.ref n0), some (.ref it12), some (.ref pa), none, none]) B dX4_held_36 rfl (Nat.le_of_ble_eq_true rfl) (rv_r _) rfl ?_
      refine g_aload_n (q := 38) B dX4_held_37 rfl rfl (rv_r _) ?_
      refine g_aload_n (q := 39) B dX4_held_38 rfl rfl (rv_r _) ?_
      obtain ⟨hK_11, hc_11_0⟩ := PackP.at (hE_10)
      refine g_getNM (q := 42) B (ci := 4) (k := 3) (j := 1) in_X7 rfl dX4_held_39 rfl rfl (hc_11_0) (Nat.le_of_ble_eq_true rfl) q1990 rfl rfl ?_
      have hcn := capN_b (m := q.2.1 / 64 + 1) hc1 (by omega)
      refine g_callV (q := 45) (is := [4]) (kc2 := (72 - cap1) - (capN cap1 (q.2.1 / 64 + 1) - cap1)) (ks2 := (200 - 2 * cap1) - (2 * (capN cap1 (q.2.1 / 64 + 1) - cap1))) B [.int (nI q.2.1)] (ct_J5_set g J (b := n0) (S := S1) (cap := cap1) (i := q.2.1) (mc := (capN cap1 (q.2.1 / 64 + 1) - cap1)) (ms := (2 * (capN cap1 (q.2.1 / 64 + 1) - cap1))) hl18_4 (by omega) (by omega) ((capN_b hc1 (by omega)).2.2)) dX4_held_42 rfl (rc_in B (ci := 26) rfl (k := 4) rfl (SetP.hm hl18_4)) rfl q1175 q1056 q1057 q84 q1058 rfl rfl moJ5_set rfl rfl (by decide) (by decide) (Nat.le_of_ble_eq_true rfl) (by omega) (by omega) (fun _ _ hx => noX_x hx) (fun v42 L1 hp42 => ?_)
      obtain ⟨u0_42, rfl, rfl, hu0_42⟩ := hp42
      refine (show Go g κ 45 [some (.ref a), some (.ref n0), some (.ref it12), some (.ref pa), none, none] [] [[(a, .inr (2, [.int (nI (pNo r)), .ref ev, .ref pl, .int (oI (pEp r)), .int (nI (pLf r)), .ref nd, .int (nI (pOn r)), .int (nI (pKy r)), .ref ch, .int (oI (pRn r)), .ref x]))], w2, w3, w4, [(it12, .inr (22, [.int (nI (k + 1)), .int (nI k), .int md, .ref pl]))], w1, u0_42] ((72 - cap1) - (capN cap1 (q.2.1 / 64 + 1) - cap1)) ((200 - 2 * cap1) - (2 * (capN cap1 (q.2.1 / 64 + 1) - cap1))) from ?_)
      refine g_aload_n (q := 46) B dX4_held_45 rfl rfl (rv_r _) ?_
      refine g_aload_n (q := 47) B dX4_held_46 rfl rfl (rv_r _) ?_
      refine g_getNM (q := 50) B (ci := 4) (k := 3) (j := 2) in_X7 rfl dX4_held_47 rfl rfl (hc_11_0) (Nat.le_of_ble_eq_true rfl) q1993 rfl rfl ?_
      have hcn2 := capN_b (m := q.2.2.1 / 64 + 1) hcn.2.1 (by omega)
      refine g_callV (q := 53) (is := [6]) (kc2 := ((72 - cap1) - (capN cap1 (q.2.1 / 64 + 1) - cap1)) - (capN (capN cap1 (q.2.1 / 64 + 1)) (q.2.2.1 / 64 + 1) - (capN cap1 (q.2.1 / 64 + 1)))) (ks2 := ((200 - 2 * cap1) - (2 * (capN cap1 (q.2.1 / 64 + 1) - cap1))) - (2 * (capN (capN cap1 (q.2.1 / 64 + 1)) (q.2.2.1 / 64 + 1) - (capN cap1 (q.2.1 / 64 + 1))))) B [.int (nI q.2.2.1)] (ct_J5_set g J (b := n0) (S := sIns S1 q.2.1) (cap := capN cap1 (q.2.1 / 64 + 1)) (i := q.2.2.1) (mc := (capN (capN cap1 (q.2.1 / 64 + 1)) (q.2.2.1 / 64 + 1) - (capN cap1 (q.2.1 / 64 + 1)))) (ms := (2 * (capN (capN cap1 (q.2.1 / 64 + 1)) (q.2.2.1 / 64 + 1) - (capN cap1 (q.2.1 / 64 + 1))))) hu0_42 (by omega) (by omega) ((capN_b hcn.2.1 (by omega)).2.2)) dX4_held_50 rfl (rc_in B (ci := 26) rfl (k := 6) rfl (SetP.hm hu0_42)) rfl q1175 q1056 q1057 q84 q1058 rfl rfl moJ5_set rfl rfl (by decide) (by decide) (Nat.le_of_ble_eq_true rfl) (by omega) (by omega) (fun _ _ hx => noX_x hx) (fun v50 L1 hp50 => ?_)
      obtain ⟨u0_50, rfl, rfl, hu0_50⟩ := hp50
      refine (show Go g κ 53 [some (.ref a), some (.ref n0), some (.ref it12), some (.ref pa), none, none] [] [[(a, .inr (2, [.int (nI (pNo r)), .ref ev, .ref pl, .int (oI (pEp r)), .int (nI (pLf r)), .ref nd, .int (nI (pOn r)), .int (nI (pKy r)), .ref ch, .int (oI (pRn r)), .ref x]))], w2, w3, w4, [(it12, .inr (22, [.int (nI (k + 1)), .int (nI k), .int md, .ref pl]))], w1, u0_50] (((72 - cap1) - (capN cap1 (q.2.1 / 64 + 1) - cap1)) - (capN (capN cap1 (q.2.1 / 64 + 1)) (q.2.2.1 / 64 + 1) - (capN cap1 (q.2.1 / 64 + 1)))) (((200 - 2 * cap1) - (2 * (capN cap1 (q.2.1 / 64 + 1) - cap1))) - (2 * (capN (capN cap1 (q.2.1 / 64 + 1)) (q.2.2.1 / 64 + 1) - (capN cap1 (q.2.1 / 64 + 1))))) from ?_)
      refine g_goto (tgt := 18) B dX4_held_53 (by decide) ?_
      refine g_fg 3 rfl ?_
      refine g_pk [0, 0, 0, 0, 2, 0, 0] rfl rfl ?_
      refine (show Go g κ 18 [some (.ref a), some (.ref n0), some (.ref it12), none, none, none] [] [[(a, .inr (2, [.int (nI (pNo r)), .ref ev, .ref pl, .int (oI (pEp r)), .int (nI (pLf r)), .ref nd, .int (nI (pOn r)), .int (nI (pKy r)), .ref ch, .int (oI (pRn r)), .ref x]))], w2, w3, w4, u0_50, [(it12, .inr (22, [.int (nI (k + 1)), .int (nI k), .int md, .ref pl]))], w1] (((72 - cap1) - (capN cap1 (q.2.1 / 64 + 1) - cap1)) - (capN (capN cap1 (q.2.1 / 64 + 1)) (q.2.2.1 / 64 + 1) - (capN cap1 (q.2.1 / 64 + 1)))) (((200 - 2 * cap1) - (2 * (capN cap1 (q.2.1 / 64 + 1) - cap1))) - (2 * (capN (capN cap1 (q.2.1 / 64 + 1)) (q.2.2.1 / 64 + 1) - (capN cap1 (q.2.1 / 64 + 1))))) from ?_)
      refine g_room (kc2 := 72 - (capN (capN cap1 (q.2.1 / 64 + 1)) (q.2.2.1 / 64 + 1))) (ks2 := 200 - 2 * (capN (capN cap1 (q.2.1 / 64 + 1)) (q.2.2.1 / 64 + 1))) (by omega) (by omega) ?_
      exact ih18 _ (by have := get_lt2 hpp; omega) (k + 1) (nI k) (sIns (sIns S1 q.2.1) q.2.2.1) (capN (capN cap1 (q.2.1 / 64 + 1)) (q.2.2.1 / 64 + 1)) u0_50 hu0_50 (by have := get_lt2 hpp; omega) (fun x => by rw [sIns_iff, sIns_iff, hS1, pkH_s hid hq, or_assoc]) (by omega) rfl
  refine g_room (kc2 := 72 - 1) (ks2 := 200 - 2 * 1) (by omega) (by omega) ?_
  exact lp18 _ 0 (-1) (fun _ => false) 1 u0_4 hu0_4 (Nat.zero_le _) (fun x => ⟨(fun h => by cases h), fun h => absurd h (pkH_0 Ks x)⟩) (by decide) rfl
theorem ct_X4_held (g : Gv) (J : Jd g) {a : Nat} {x : Nat} {pks : List Nat} {r : PeS} {lk : Nat} {Ks : List PkS} {kcap : Nat} {w0 : va_W} {w1 : va_W} (hw0 : PersP g a x pks r w0) (hw1 : LoP g (PackP g) lk pks Ks kcap w1) (hkb : ∀ i ∈ pPk r, i < Ks.length) : Ct g yX4_held (ws_ yX4_held cX4_held 6 (some (.object "java/util/BitSet"))) 6 76 210 [.ref a] [w0, w1] (fun (rv_ : Option Value) (rL_ : List va_W) => ∃ (b : Nat) (S : Nat → Bool) (cap : Nat) (u0 : va_W) (u2 : va_W), rv_ = some (.ref b) ∧ rL_ = [u0, w1, u2] ∧ PersP g a x pks r u0 ∧ SetP g b S cap u2 ∧ (∀ x, S x = true ↔ helP Ks r x) ∧ (cap ≤ 30)) noX := by
  refine Ct.of "Keygrove$Person" [some (.ref a), none, none, none, none, none] rfl (by decide) rfl (Nat.le_of_ble_eq_true rfl) rfl ?_
  intro κ B E tb
  obtain ⟨ev, pl, nd, ch, ecap, pcap, nn, nc, plc, md, v0, v1, v2, v3, hP, hpl, hec, hpc, hv0, hv1, hv2, hv3, rfl⟩ := hw0
  refine g_open 0 rfl rfl rfl ?_
  refine (show Go g κ 0 [some (.ref a), none, none, none, none, none] [] [w1, [(a, .inr (2, [.int (nI (pNo r)), .ref ev, .ref pl, .int (oI (pEp r)), .int (nI (pLf r)), .ref nd, .int (nI (pOn r)), .int (nI (pKy r)), .ref ch, .int (oI (pRn r)), .ref x]))], v0, v1, v2, v3] 76 210 from ?_)
  have hP0 := hP
  obtain ⟨hp0, hp1, hp2, hp3, hp4, hp5, hp6, hp7, hp8⟩ := hP0
  have hpa := Plc.at hpl
  refine g_new (q := 3) (kc2 := 75) (ks2 := 207) (fs := [.null, .int (nI 0), .int (nI 0)]) B (ci := 26) in_J5 tyJ5_ok rfl dX4_held_0 rfl q1166 q253 q84 (nwJ5) (Nat.le_of_ble_eq_true rfl) (Nat.le_of_ble_eq_true rfl) (fun n0 => ?_)
  refine (show Go g κ 3 [some (.ref a), none, none, none, none, none] [.ref n0] [w1, [(a, .inr (2, [.int (nI (pNo r)), .ref ev, .ref pl, .int (oI (pEp r)), .int (nI (pLf r)), .ref nd, .int (nI (pOn r)), .int (nI (pKy r)), .ref ch, .int (oI (pRn r)), .ref x]))], v0, v1, v2, v3, [(n0, .inr (26, [.null, .int (nI 0), .int (nI 0)]))]] 75 207 from ?_)
  refine g_dup (q := 4) B dX4_held_3 rfl rfl ?_
  refine g_callI (q := 7) (is := [6]) (kc2 := 74) (ks2 := 206) B [] (ct_J5_init g J (b := n0)  ) dX4_held_4 rfl rfl q1167 q255 q84 q256 rfl rfl moJ5_init rfl rfl (by decide) (by decide) (Nat.le_of_ble_eq_true rfl) (Nat.le_of_ble_eq_true rfl) (Nat.le_of_ble_eq_true rfl) (fun _ _ hx => noX_x hx) (fun v4 L1 hp4 => ?_)
  obtain ⟨u0_4, rfl, rfl, hu0_4⟩ := hp4
  refine (show Go g κ 7 [some (.ref a), none, none, none, none, none] [.ref n0] [w1, [(a, .inr (2, [.int (nI (pNo r)), .ref ev, .ref pl, .int (oI (pEp r)), .int (nI (pLf r)), .ref nd, .int (nI (pOn r)), .int (nI (pKy r)), .ref ch, .int (oI (pRn r)), .ref x]))], v0, v1, v2, v3, u0_4] 74 206 from ?_)
  refine g_astore_n (q := 8) (lv2 := [some (.ref a), some (.ref n0), none, none, none, none]) B dX4_held_7 rfl (Nat.le_of_ble_eq_true rfl) (rv_r _) rfl ?_
  refine g_aload_n (q := 9) B dX4_held_8 rfl rfl (rv_r _) ?_
  refine g_get (q := 12) B (ci := 2) (k := 1) (j := 2) in_X4 rfl dX4_held_9 rfl rfl (Nat.le_of_ble_eq_true rfl) q1898 rfl rfl ?_
  refine g_callF (q := 17) (is := [3]) (kc2 := 73) (ks2 := 202) B [] (ct_J2_iterator g J (p := pl) (xs := plc) (md := md) (cap := pcap) hv1 ) dX4_held_12 rfl (ci := 21) rfl (rc_in B (ci := 21) rfl (k := 3) rfl (ListP.hm hv1)) q1169 q1156 q805 q81 q807 q1155 q1154 q806 q804 q318 rfl rfl mojava_util_List_iterator___Ljava_util_Iterator_ rfl rfl (by decide) (by decide) (Nat.le_of_ble_eq_true rfl) (Nat.le_of_ble_eq_true rfl) (Nat.le_of_ble_eq_true rfl) (fun _ _ hx => noX_x hx) (fun v12 L1 hp12 => ?_)
  obtain ⟨it12, rfl, rfl⟩ := hp12
  refine (show Go g κ 17 [some (.ref a), some (.ref n0), none, none, none, none] [.ref it12] [w1, [(a, .inr (2, [.int (nI (pNo r)), .ref ev, .ref pl, .int (oI (pEp r)), .int (nI (pLf r)), .ref nd, .int (nI (pOn r)), .int (nI (pKy r)), .ref ch, .int (oI (pRn r)), .ref x]))], v0, v2, v3, u0_4, [(it12, .inr (22, [.int (nI 0), .int (-1), .int md, .ref pl]))], v1] 73 202 from ?_)
  refine g_astore_n (q := 18) (lv2 := [some (.ref a), some (.ref n0), some (.ref it12), none, none, none]) B dX4_held_17 rfl (Nat.le_of_ble_eq_true rfl) (rv_r _) rfl ?_
  have lp18 : ∀ (n18 : Nat) (k : Nat) (lr : Int32) (S1 : Nat → Bool) (cap1 : Nat) (l18_5 : va_W), SetP g n0 S1 cap1 l18_5 → (k ≤ plc.length) → (∀ x, S1 x = true ↔ pkH Ks ((pPk r).take k) x) → (cap1 ≤ 30) → plc.length - k = n18 → Go g κ 18 [some (.ref a), some (.ref n0), some (.ref it12), none, none, none] [] [w1, [(a, .inr (2, [.int (nI (pNo r)), .ref ev, .ref pl, .int (oI (pEp r)), .int (nI (pLf r)), .ref nd, .int (nI (pOn r)), .int (nI (pKy r)), .ref ch, .int (oI (pRn r)), .ref x]))], v0, v2, v3, l18_5, [(it12, .inr (22, [.int (nI k), .int lr, .int md, .ref pl]))], v1] (72 - cap1) (200 - 2 * cap1) := by
    intro n18
    induction n18 using Nat.strongRecOn with
    | _ n18 ih18 =>
    intro k lr S1 cap1 l18_5 hl18_5 hk hS1 hc1 hmu18
    refine g_aload_n (q := 19) B dX4_held_18 rfl rfl (rv_r _) ?_
    refine g_callF (q := 24) (is := [6, 6]) (kc2 := 72 - cap1) (ks2 := 200 - 2 * cap1) B [] (ct_J19_hasNext g J (p := pl) (xs := plc) (md := md) (cap := pcap) (it := it12) (c := k) (lr := lr) hv1 (by first | assumption | omega | rfl)) dX4_held_19 rfl (ci := 22) rfl (rc_at B (ci := 22) rfl (k := 6) rfl) q1171 q940 q942 q104 q944 q938 q937 q943 q941 q939 rfl rfl mojava_util_Iterator_hasNext___Z rfl rfl (by decide) (by decide) (Nat.le_of_ble_eq_true rfl) (by omega) (by omega) (fun _ _ hx => noX_x hx) (fun v19 L1 hp19 => ?_)
    obtain ⟨rfl, rfl⟩ := hp19
    refine (show Go g κ 24 [some (.ref a), some (.ref n0), some (.ref it12), none, none, none] [.int (nI (if ¬ k = plc.length then 1 else 0))] [w1, [(a, .inr (2, [.int (nI (pNo r)), .ref ev, .ref pl, .int (oI (pEp r)), .int (nI (pLf r)), .ref nd, .int (nI (pOn r)), .int (nI (pKy r)), .ref ch, .int (oI (pRn r)), .ref x]))], v0, v2, v3, l18_5, [(it12, .inr (22, [.int (nI k), .int lr, .int md, .ref pl]))], v1] (72 - cap1) (200 - 2 * cap1) from ?_)
    refine g_if_eq (tgt := 56) (q := 27) B dX4_held_24 rfl (by decide) (bo_eq) (fun c24 => ?_) (fun c24 => ?_)
    · skip
      have hS1e : ∀ x, S1 x = true ↔ pkH Ks (pPk r) x := by
        intro x
        rw [hS1 x, show k = (pPk r).length by have := hpa.1; omega, List.take_length]
      refine g_aload_n (q := 57) B dX4_held_56 rfl rfl (rv_r _) ?_
      refine g_get (q := 60) B (ci := 2) (k := 1) (j := 5) in_X4 rfl dX4_held_57 rfl rfl (Nat.le_of_ble_eq_true rfl) q1904 rfl rfl ?_
      obtain ⟨f_n, mm_n, wm_n, wb_n, hm_n, ho_n, hb_n, he_n⟩ := hv2
      refine g_open 3 rfl he_n rfl ?_
      refine (show Go g κ 60 [some (.ref a), some (.ref n0), some (.ref it12), none, none, none] [.ref nd] [w1, [(a, .inr (2, [.int (nI (pNo r)), .ref ev, .ref pl, .int (oI (pEp r)), .int (nI (pLf r)), .ref nd, .int (nI (pOn r)), .int (nI (pKy r)), .ref ch, .int (oI (pRn r)), .ref x]))], v0, v3, l18_5, [(it12, .inr (22, [.int (nI k), .int lr, .int md, .ref pl]))], v1, wm_n, wb_n] (72 - cap1) (200 - 2 * cap1) from ?_)
      refine g_callV (q := 63) (is := [7]) (kc2 := (72 - cap1) - 1) (ks2 := (200 - 2 * cap1) - 1) B [] (ct_J10_values_m g J (t := nd) (f := f_n) (n := nn) (md := mm_n) hm_n ) dX4_held_60 rfl (rc_in B (ci := 27) rfl (k := 7) rfl (MapP.hm hm_n)) rfl q1176 q1177 q1178 q91 q1179 rfl rfl moJ10_values rfl rfl (by decide) (by decide) (Nat.le_of_ble_eq_true rfl) (by omega) (by omega) (fun _ _ hx => noX_x hx) (fun v60 L1 hp60 => ?_)
      obtain ⟨y60, u0_60, rfl, rfl, hu0_60⟩ := hp60
      refine (show Go g κ 63 [some (.ref a), some (.ref n0), some (.ref it12), none, none, none] [.ref y60] [w1, [(a, .inr (2, [.int (nI (pNo r)), .ref ev, .ref pl, .int (oI (pEp r)), .int (nI (pLf r)), .ref nd, .int (nI (pOn r)), .int (nI (pKy r)), .ref ch, .int (oI (pRn r)), .ref x]))], v0, v3, l18_5, [(it12, .inr (22, [.int (nI k), .int lr, .int md, .ref pl]))], v1, wb_n, u0_60] ((72 - cap1) - 1) ((200 - 2 * cap1) - 1) from ?_)
      refine g_callF (q := 68) (is := [8]) (kc2 := (72 - cap1) - 2) (ks2 := (200 - 2 * cap1) - 5) B [] (ct_J28_iterator_m g J (y := y60) (t := nd) (f := f_n) (n := nn) (md := mm_n) hu0_60 ) dX4_held_63 rfl (ci := 29) rfl (rc_in B (ci := 29) rfl (k := 8) rfl (MvP.hm hu0_60)) q1191 q1203 q920 q113 q922 q1193 q1192 q921 q919 q1202 rfl rfl mojava_util_Collection_iterator___Ljava_util_Iterator_ rfl rfl (by decide) (by decide) (Nat.le_of_ble_eq_true rfl) (by omega) (by omega) (fun _ _ hx => noX_x hx) (fun v63 L1 hp63 => ?_)
      obtain ⟨i63, u0_63, rfl, rfl, hu0_63⟩ := hp63
      refine (show Go g κ 68 [some (.ref a), some (.ref n0), some (.ref it12), none, none, none] [.ref i63] [w1, [(a, .inr (2, [.int (nI (pNo r)), .ref ev, .ref pl, .int (oI (pEp r)), .int (nI (pLf r)), .ref nd, .int (nI (pOn r)), .int (nI (pKy r)), .ref ch, .int (oI (pRn r)), .ref x]))], v0, v3, l18_5, [(it12, .inr (22, [.int (nI k), .int lr, .int md, .ref pl]))], v1, wb_n, u0_63] ((72 - cap1) - 2) ((200 - 2 * cap1) - 5) from ?_)
      refine g_astore_n (q := 69) (lv2 := [some (.ref a), some (.ref n0), some (.ref i63), none, none, none]) B dX4_held_68 rfl (Nat.le_of_ble_eq_true rfl) (rv_r _) rfl ?_
      have lp69 : ∀ (n69 : Nat) (j : Nat) (la : Option Nat) (S2 : Nat → Bool) (cap2 : Nat) (l69_4 : va_W) (l69_8 : va_W), SetP g n0 S2 cap2 l69_4 → MItP g 33 i63 nd f_n nn mm_n j la l69_8 → (j ≤ 128) → (∀ x, S2 x = true ↔ S1 x = true ∨ upT (pNd r) (fun n x => x = n) j x) → (cap2 ≤ 30) → 128 - j = n69 → Go g κ 69 [some (.ref a), some (.ref n0), some (.ref i63), none, none, none] [] [w1, [(a, .inr (2, [.int (nI (pNo r)), .ref ev, .ref pl, .int (oI (pEp r)), .int (nI (pLf r)), .ref nd, .int (nI (pOn r)), .int (nI (pKy r)), .ref ch, .int (oI (pRn r)), .ref x]))], v0, v3, l69_4, [(it12, .inr (22, [.int (nI k), .int lr, .int md, .ref pl]))], v1, wb_n, l69_8] (67 - cap2) (190 - 2 * cap2) := by
        intro n69
        induction n69 using Nat.strongRecOn with
        | _ n69 ih69 =>
        intro j la S2 cap2 l69_4 l69_8 hl69_4 hl69_8 hj hS2 hc2 hmu69
        refine g_aload_n (q := 70) B dX4_held_69 rfl rfl (rv_r _) ?_
        refine g_callF (q := 75) (is := [8]) (kc2 := 67 - cap2) (ks2 := 190 - 2 * cap2) B [] (ct_J31_hasNext_mv g J (i := i63) (t := nd) (f := f_n) (n := nn) (md := mm_n) (j := j) (la := la) hl69_8 ) dX4_held_70 rfl (ci := 33) rfl (rc_in B (ci := 33) rfl (k := 8) rfl (MItP.hm hl69_8)) q1171 q961 q954 q116 q956 q938 q937 q955 q962 q960 rfl rfl mojava_util_Iterator_hasNext___Z rfl rfl (by decide) (by decide) (Nat.le_of_ble_eq_true rfl) (by omega) (by omega) (fun _ _ hx => noX_x hx) (fun v70 L1 hp70 => ?_)
        obtain ⟨hb70, u0_70, rfl, rfl, hu0_70, hbi_70⟩ := hp70
        refine (show Go g κ 75 [some (.ref a), some (.ref n0), some (.ref i63), none, none, none] [.int (nI (if hb70 = true then 1 else 0))] [w1, [(a, .inr (2, [.int (nI (pNo r)), .ref ev, .ref pl, .int (oI (pEp r)), .int (nI (pLf r)), .ref nd, .int (nI (pOn r)), .int (nI (pKy r)), .ref ch, .int (oI (pRn r)), .ref x]))], v0, v3, l69_4, [(it12, .inr (22, [.int (nI k), .int lr, .int md, .ref pl]))], v1, wb_n, u0_70] (67 - cap2) (190 - 2 * cap2) from ?_)
        refine g_if_eq (tgt := 99) (q := 78) B dX4_held_75 rfl (by decide) (bo_eq) (fun c75 => ?_) (fun c75 => ?_)
        · skip
          have hno75 := fun z => c75 (hbi_70.mpr z)
          have hS2e : ∀ x, S2 x = true ↔ S1 x = true ∨ ∃ n, pNd r n = some x := by
            intro x
            rw [hS2 x, upT_e (fun ⟨q, h1, h2⟩ => hno75 ⟨q, h1, fun z => h2 ((MoE.iffB hb_n ho_n q).mp z)⟩)]
            exact or_congr_right ⟨fun ⟨n, c, h1, h2⟩ => ⟨n, by rw [h2]; exact h1⟩, fun ⟨n, h⟩ => ⟨n, x, h, rfl⟩⟩
          obtain ⟨wz_1, wr_1, hpz_1, hmz_1⟩ := MItP.map hu0_70
          refine g_sub 8 rfl hpz_1 rfl ?_
          refine (show Go g κ 99 [some (.ref a), some (.ref n0), some (.ref i63), none, none, none] [] [w1, [(a, .inr (2, [.int (nI (pNo r)), .ref ev, .ref pl, .int (oI (pEp r)), .int (nI (pLf r)), .ref nd, .int (nI (pOn r)), .int (nI (pKy r)), .ref ch, .int (oI (pRn r)), .ref x]))], v0, v3, l69_4, [(it12, .inr (22, [.int (nI k), .int lr, .int md, .ref pl]))], v1, wb_n, wz_1] (67 - cap2) (190 - 2 * cap2) from ?_)
          obtain ⟨wc_2, ewc_2⟩ : ∃ w : va_W, w = ([wz_1, wb_n] : List va_W).flatten := ⟨_, rfl⟩
          have hwc_2 : MoP g (BxE g) nd (pNd r) nn wc_2 := by
            rw [ewc_2]
            exact ⟨_, _, _, _, hmz_1, ho_n, hb_n, rfl⟩
          refine g_close (w := wc_2) [8, 7] rfl ewc_2 rfl ?_
          refine (show Go g κ 99 [some (.ref a), some (.ref n0), some (.ref i63), none, none, none] [] [w1, [(a, .inr (2, [.int (nI (pNo r)), .ref ev, .ref pl, .int (oI (pEp r)), .int (nI (pLf r)), .ref nd, .int (nI (pOn r)), .int (nI (pKy r)), .ref ch, .int (oI (pRn r)), .ref x]))], v0, v3, l69_4, [(it12, .inr (22, [.int (nI k), .int lr, .int md, .ref pl]))], v1, wc_2] (67 - cap2) (190 - 2 * cap2) from ?_)
          have ct213 : ∀ (S5 : Nat → Bool) (cap5 : Nat) (l213_3 : va_W) (l213_4 : va_W), MoP g (ChnP g) ch (pCh r) nc l213_3 → SetP g n0 S5 cap5 l213_4 → (∀ x, S5 x = true ↔ pkH Ks (pPk r) x ∨ (∃ n, pNd r n = some x) ∨ (pEp r ≠ none ∧ (x = pOn r ∨ x = pKy r ∨ ∃ n c, pCh r n = some c ∧ chH c x))) → (cap5 ≤ 30) → Go g κ 213 [some (.ref a), some (.ref n0), none, none, none, none] [] [w1, [(a, .inr (2, [.int (nI (pNo r)), .ref ev, .ref pl, .int (oI (pEp r)), .int (nI (pLf r)), .ref nd, .int (nI (pOn r)), .int (nI (pKy r)), .ref ch, .int (oI (pRn r)), .ref x]))], v0, l213_3, l213_4, v1, wc_2] (30 - cap5) (60 - 2 * cap5) := by
            intro S5 cap5 l213_3 l213_4 hl213_3 hl213_4 hS5 hc5
            refine g_aload_n (q := 214) B dX4_held_213 rfl rfl (rv_r _) ?_
            refine g_get (q := 217) B (ci := 2) (k := 1) (j := 9) in_X4 rfl dX4_held_214 rfl rfl (Nat.le_of_ble_eq_true rfl) q1912 rfl rfl ?_
            refine g_iconst (v := -1) (q := 218) B dX4_held_217 rfl (by decide) ?_
            refine g_icmp_eq (tgt := 229) (q := 221) B dX4_held_218 rfl (by decide) (oI_n ((fun n h => by have := hp5 _ h; omega))) (fun c218 => ?_) (fun c218 => ?_)
            · skip
              refine g_aload_n (q := 230) B dX4_held_229 rfl rfl (rv_r _) ?_
              obtain ⟨wc_3, ewc_3⟩ : ∃ w : va_W, w = ([[(a, .inr (2, [.int (nI (pNo r)), .ref ev, .ref pl, .int (oI (pEp r)), .int (nI (pLf r)), .ref nd, .int (nI (pOn r)), .int (nI (pKy r)), .ref ch, .int (oI (pRn r)), .ref x]))], v0, v1, wc_2, l213_3] : List va_W).flatten := ⟨_, rfl⟩
              have hwc_3 : PersP g a x pks r wc_3 := by
                rw [ewc_3]
                exact ⟨ev, pl, nd, ch, ecap, pcap, nn, nc, plc, md, _, _, _, _, hP, hpl, hec, hpc, hv0, hv1, hwc_2, hl213_3, rfl⟩
              refine g_close (w := wc_3) [1, 1, 3, 3, 1] rfl ewc_3 rfl ?_
              refine (show Go g κ 230 [some (.ref a), some (.ref n0), none, none, none, none] [.ref n0] [w1, l213_4, wc_3] (30 - cap5) (60 - 2 * cap5) from ?_)
              refine g_pk [2, 0, 0] rfl rfl ?_
              refine (show Go g κ 230 [some (.ref a), some (.ref n0), none, none, none, none] [.ref n0] [wc_3, w1, l213_4] (30 - cap5) (60 - 2 * cap5) from ?_)
              exact g_aret B E dX4_held_230 (by first | exact Or.inl ⟨_, rfl⟩ | exact Or.inr ⟨_, rfl⟩) (rv_r _) (⟨n0, S5, cap5, wc_3, l213_4, rfl, rfl, hwc_3, hl213_4, fun x => by unfold helP; rw [hS5 x, c218]; simp, by omega⟩)
            · skip
              obtain ⟨v218, ev218⟩ := Option.ne_none_iff_exists'.mp c218
              refine g_aload_n (q := 222) B dX4_held_221 rfl rfl (rv_r _) ?_
              refine g_aload_n (q := 223) B dX4_held_222 rfl rfl (rv_r _) ?_
              refine g_get (q := 226) B (ci := 2) (k := 1) (j := 9) in_X4 rfl dX4_held_223 rfl rfl (Nat.le_of_ble_eq_true rfl) q1912 rfl rfl ?_
              refine g_stk (y := .int (nI v218)) (by rw [ev218]; rfl) ?_
              have hrn := hp5 _ ev218
              have hcn5 := capN_b (m := v218 / 64 + 1) hc5 (by omega)
              refine g_callV (q := 229) (is := [4]) (kc2 := (30 - cap5) - (capN cap5 (v218 / 64 + 1) - cap5)) (ks2 := (60 - 2 * cap5) - (2 * (capN cap5 (v218 / 64 + 1) - cap5))) B [.int (nI v218)] (ct_J5_set g J (b := n0) (S := S5) (cap := cap5) (i := v218) (mc := (capN cap5 (v218 / 64 + 1) - cap5)) (ms := (2 * (capN cap5 (v218 / 64 + 1) - cap5))) hl213_4 (by omega) (by omega) ((capN_b hc5 (by omega)).2.2)) dX4_held_226 rfl (rc_in B (ci := 26) rfl (k := 4) rfl (SetP.hm hl213_4)) rfl q1175 q1056 q1057 q84 q1058 rfl rfl moJ5_set rfl rfl (by decide) (by decide) (Nat.le_of_ble_eq_true rfl) (by omega) (by omega) (fun _ _ hx => noX_x hx) (fun v226 L1 hp226 => ?_)
              obtain ⟨u0_226, rfl, rfl, hu0_226⟩ := hp226
              refine (show Go g κ 229 [some (.ref a), some (.ref n0), none, none, none, none] [] [w1, [(a, .inr (2, [.int (nI (pNo r)), .ref ev, .ref pl, .int (oI (pEp r)), .int (nI (pLf r)), .ref nd, .int (nI (pOn r)), .int (nI (pKy r)), .ref ch, .int (oI (pRn r)), .ref x]))], v0, l213_3, v1, wc_2, u0_226] ((30 - cap5) - (capN cap5 (v218 / 64 + 1) - cap5)) ((60 - 2 * cap5) - (2 * (capN cap5 (v218 / 64 + 1) - cap5))) from ?_)
              refine g_aload_n (q := 230) B dX4_held_229 rfl rfl (rv_r _) ?_
              obtain ⟨wc_4, ewc_4⟩ : ∃ w : va_W, w = ([[(a, .inr (2, [.int (nI (pNo r)), .ref ev, .ref pl, .int (oI (pEp r)), .int (nI (pLf r)), .ref nd, .int (nI (pOn r)), .int (nI (pKy r)), .ref ch, .int (oI (pRn r)), .ref x]))], v0, v1, wc_2, l213_3] : List va_W).flatten := ⟨_, rfl⟩
              have hwc_4 : PersP g a x pks r wc_4 := by
                rw [ewc_4]
                exact ⟨ev, pl, nd, ch, ecap, pcap, nn, nc, plc, md, _, _, _, _, hP, hpl, hec, hpc, hv0, hv1, hwc_2, hl213_3, rfl⟩
              refine g_close (w := wc_4) [1, 1, 2, 2, 1] rfl ewc_4 rfl ?_
              refine (show Go g κ 230 [some (.ref a), some (.ref n0), none, none, none, none] [.ref n0] [w1, u0_226, wc_4] ((30 - cap5) - (capN cap5 (v218 / 64 + 1) - cap5)) ((60 - 2 * cap5) - (2 * (capN cap5 (v218 / 64 + 1) - cap5))) from ?_)
              refine g_pk [2, 0, 0] rfl rfl ?_
              refine (show Go g κ 230 [some (.ref a), some (.ref n0), none, none, none, none] [.ref n0] [wc_4, w1, u0_226] ((30 - cap5) - (capN cap5 (v218 / 64 + 1) - cap5)) ((60 - 2 * cap5) - (2 * (capN cap5 (v218 / 64 + 1) - cap5))) from ?_)
              exact g_aret B E dX4_held_230 (by first | exact Or.inl ⟨_, rfl⟩ | exact Or.inr ⟨_, rfl⟩) (rv_r _) (⟨n0, sIns S5 v218, capN cap5 (v218 / 64 + 1), wc_4, u0_226, rfl, rfl, hwc_4, hu0_226, fun x => by unfold helP; rw [sIns_iff, hS5 x, ev218, Option.some.injEq, eq_comm (a := v218), or_assoc, or_assoc], by omega⟩)
          refine g_aload_n (q := 100) B dX4_held_99 rfl rfl (rv_r _) ?_
          refine g_callV (q := 103) (is := [1]) (kc2 := 67 - cap2) (ks2 := 190 - 2 * cap2) B [] (ct_X4_isIn_o g J (a := a) (f0 := pNo r) (f1 := ev) (f2 := pl) (f4 := pLf r) (f5 := nd) (f6 := pOn r) (f7 := pKy r) (f8 := ch) (f10 := x) (e3 := pEp r) (e9 := pRn r)  (fun n h => by have := hp4 _ h; omega)) dX4_held_100 rfl (rc_at B (ci := 2) rfl (k := 1) rfl) rfl q1206 q1207 q1208 q90 q1209 rfl rfl moX4_isIn rfl rfl (by decide) (by decide) (Nat.le_of_ble_eq_true rfl) (by omega) (by omega) (fun _ _ hx => noX_x hx) (fun v100 L1 hp100 => ?_)
          obtain ⟨rfl, rfl⟩ := hp100
          refine (show Go g κ 103 [some (.ref a), some (.ref n0), some (.ref i63), none, none, none] [.int (nI (if ¬ (pEp r) = none then 1 else 0))] [w1, v0, v3, l69_4, [(it12, .inr (22, [.int (nI k), .int lr, .int md, .ref pl]))], v1, wc_2, [(a, .inr (2, [.int (nI (pNo r)), .ref ev, .ref pl, .int (oI (pEp r)), .int (nI (pLf r)), .ref nd, .int (nI (pOn r)), .int (nI (pKy r)), .ref ch, .int (oI (pRn r)), .ref x]))]] (67 - cap2) (190 - 2 * cap2) from ?_)
          refine g_if_eq (tgt := 213) (q := 106) B dX4_held_103 rfl (by decide) (bo_eq) (fun c103 => ?_) (fun c103 => ?_)
          · skip
            refine g_fg 2 rfl ?_
            refine g_pk [0, 6, 0, 0, 0, 1, 1] rfl rfl ?_
            refine (show Go g κ 213 [some (.ref a), some (.ref n0), none, none, none, none] [] [w1, [(a, .inr (2, [.int (nI (pNo r)), .ref ev, .ref pl, .int (oI (pEp r)), .int (nI (pLf r)), .ref nd, .int (nI (pOn r)), .int (nI (pKy r)), .ref ch, .int (oI (pRn r)), .ref x]))], v0, v3, l69_4, v1, wc_2] (67 - cap2) (190 - 2 * cap2) from ?_)
            refine g_room (kc2 := 30 - cap2) (ks2 := 60 - 2 * cap2) (by omega) (by omega) ?_
            exact ct213 S2 cap2 v3 l69_4 hv3 hl69_4 (fun x => by rw [hS2e x, hS1e x]; exact hc_out c103) (by omega)
          · skip
            have c103 := Classical.not_not.mp c103
            refine g_aload_n (q := 107) B dX4_held_106 rfl rfl (rv_r _) ?_
            refine g_aload_n (q := 108) B dX4_held_107 rfl rfl (rv_r _) ?_
            refine g_get (q := 111) B (ci := 2) (k := 7) (j := 6) in_X4 rfl dX4_held_108 rfl rfl (Nat.le_of_ble_eq_true rfl) q1906 rfl rfl ?_
            have hcn := capN_b (m := (pOn r) / 64 + 1) hc2 (by omega)
            refine g_callV (q := 114) (is := [3]) (kc2 := (67 - cap2) - (capN cap2 ((pOn r) / 64 + 1) - cap2)) (ks2 := (190 - 2 * cap2) - (2 * (capN cap2 ((pOn r) / 64 + 1) - cap2))) B [.int (nI (pOn r))] (ct_J5_set g J (b := n0) (S := S2) (cap := cap2) (i := (pOn r)) (mc := (capN cap2 ((pOn r) / 64 + 1) - cap2)) (ms := (2 * (capN cap2 ((pOn r) / 64 + 1) - cap2))) hl69_4 (by omega) (by omega) ((capN_b hc2 (by omega)).2.2)) dX4_held_111 rfl (rc_in B (ci := 26) rfl (k := 3) rfl (SetP.hm hl69_4)) rfl q1175 q1056 q1057 q84 q1058 rfl rfl moJ5_set rfl rfl (by decide) (by decide) (Nat.le_of_ble_eq_true rfl) (by omega) (by omega) (fun _ _ hx => noX_x hx) (fun v111 L1 hp111 => ?_)
            obtain ⟨u0_111, rfl, rfl, hu0_111⟩ := hp111
            refine (show Go g κ 114 [some (.ref a), some (.ref n0), some (.ref i63), none, none, none] [] [w1, v0, v3, [(it12, .inr (22, [.int (nI k), .int lr, .int md, .ref pl]))], v1, wc_2, [(a, .inr (2, [.int (nI (pNo r)), .ref ev, .ref pl, .int (oI (pEp r)), .int (nI (pLf r)), .ref nd, .int (nI (pOn r)), .int (nI (pKy r)), .ref ch, .int (oI (pRn r)), .ref x]))], u0_111] ((67 - cap2) - (capN cap2 ((pOn r) / 64 + 1) - cap2)) ((190 - 2 * cap2) - (2 * (capN cap2 ((pOn r) / 64 + 1) - cap2))) from ?_)
            refine g_aload_n (q := 115) B dX4_held_114 rfl rfl (rv_r _) ?_
            refine g_aload_n (q := 116) B dX4_held_115 rfl rfl (rv_r _) ?_
            refine g_get (q := 119) B (ci := 2) (k := 6) (j := 7) in_X4 rfl dX4_held_116 rfl rfl (Nat.le_of_ble_eq_true rfl) q1908 rfl rfl ?_
            have hcn2 := capN_b (m := pKy r / 64 + 1) hcn.2.1 (by omega)
            refine g_callV (q := 122) (is := [7]) (kc2 := ((67 - cap2) - (capN cap2 ((pOn r) / 64 + 1) - cap2)) - (capN (capN cap2 (pOn r / 64 + 1)) ((pKy r) / 64 + 1) - (capN cap2 (pOn r / 64 + 1)))) (ks2 := ((190 - 2 * cap2) - (2 * (capN cap2 ((pOn r) / 64 + 1) - cap2))) - (2 * (capN (capN cap2 (pOn r / 64 + 1)) ((pKy r) / 64 + 1) - (capN cap2 (pOn r / 64 + 1))))) B [.int (nI (pKy r))] (ct_J5_set g J (b := n0) (S := sIns S2 (pOn r)) (cap := capN cap2 ((pOn r) / 64 + 1)) (i := (pKy r)) (mc := (capN (capN cap2 (pOn r / 64 + 1)) ((pKy r) / 64 + 1) - (capN cap2 (pOn r / 64 + 1)))) (ms := (2 * (capN (capN cap2 (pOn r / 64 + 1)) ((pKy r) / 64 + 1) - (capN cap2 (pOn r / 64 + 1))))) hu0_111 (by omega) (by omega) ((capN_b hcn.2.1 (by omega)).2.2)) dX4_held_119 rfl (rc_in B (ci := 26) rfl (k := 7) rfl (SetP.hm hu0_111)) rfl q1175 q1056 q1057 q84 q1058 rfl rfl moJ5_set rfl rfl (by decide) (by decide) (Nat.le_of_ble_eq_true rfl) (by omega) (by omega) (fun _ _ hx => noX_x hx) (fun v119 L1 hp119 => ?_)
            obtain ⟨u0_119, rfl, rfl, hu0_119⟩ := hp119
            refine (show Go g κ 122 [some (.ref a), some (.ref n0), some (.ref i63), none, none, none] [] [w1, v0, v3, [(it12, .inr (22, [.int (nI k), .int lr, .int md, .ref pl]))], v1, wc_2, [(a, .inr (2, [.int (nI (pNo r)), .ref ev, .ref pl, .int (oI (pEp r)), .int (nI (pLf r)), .ref nd, .int (nI (pOn r)), .int (nI (pKy r)), .ref ch, .int (oI (pRn r)), .ref x]))], u0_119] (((67 - cap2) - (capN cap2 ((pOn r) / 64 + 1) - cap2)) - (capN (capN cap2 (pOn r / 64 + 1)) ((pKy r) / 64 + 1) - (capN cap2 (pOn r / 64 + 1)))) (((190 - 2 * cap2) - (2 * (capN cap2 ((pOn r) / 64 + 1) - cap2))) - (2 * (capN (capN cap2 (pOn r / 64 + 1)) ((pKy r) / 64 + 1) - (capN cap2 (pOn r / 64 + 1))))) from ?_)
            refine g_aload_n (q := 123) B dX4_held_122 rfl rfl (rv_r _) ?_
            refine g_get (q := 126) B (ci := 2) (k := 6) (j := 8) in_X4 rfl dX4_held_123 rfl rfl (Nat.le_of_ble_eq_true rfl) q1910 rfl rfl ?_
            obtain ⟨f_c, mm_c, wm_c, wb_c, hm_c, ho_c, hb_c, he_c⟩ := hv3
            refine g_open 2 rfl he_c rfl ?_
            refine (show Go g κ 126 [some (.ref a), some (.ref n0), some (.ref i63), none, none, none] [.ref ch] [w1, v0, [(it12, .inr (22, [.int (nI k), .int lr, .int md, .ref pl]))], v1, wc_2, [(a, .inr (2, [.int (nI (pNo r)), .ref ev, .ref pl, .int (oI (pEp r)), .int (nI (pLf r)), .ref nd, .int (nI (pOn r)), .int (nI (pKy r)), .ref ch, .int (oI (pRn r)), .ref x]))], u0_119, wm_c, wb_c] (((67 - cap2) - (capN cap2 ((pOn r) / 64 + 1) - cap2)) - (capN (capN cap2 (pOn r / 64 + 1)) ((pKy r) / 64 + 1) - (capN cap2 (pOn r / 64 + 1)))) (((190 - 2 * cap2) - (2 * (capN cap2 ((pOn r) / 64 + 1) - cap2))) - (2 * (capN (capN cap2 (pOn r / 64 + 1)) ((pKy r) / 64 + 1) - (capN cap2 (pOn r / 64 + 1))))) from ?_)
            refine g_callV (q := 129) (is := [7]) (kc2 := (((67 - cap2) - (capN cap2 ((pOn r) / 64 + 1) - cap2)) - (capN (capN cap2 (pOn r / 64 + 1)) ((pKy r) / 64 + 1) - (capN cap2 (pOn r / 64 + 1)))) - 1) (ks2 := (((190 - 2 * cap2) - (2 * (capN cap2 ((pOn r) / 64 + 1) - cap2))) - (2 * (capN (capN cap2 (pOn r / 64 + 1)) ((pKy r) / 64 + 1) - (capN cap2 (pOn r / 64 + 1))))) - 1) B [] (ct_J10_values_m g J (t := ch) (f := f_c) (n := nc) (md := mm_c) hm_c ) dX4_held_126 rfl (rc_in B (ci := 27) rfl (k := 7) rfl (MapP.hm hm_c)) rfl q1176 q1177 q1178 q91 q1179 rfl rfl moJ10_values rfl rfl (by decide) (by decide) (Nat.le_of_ble_eq_true rfl) (by omega) (by omega) (fun _ _ hx => noX_x hx) (fun v126 L1 hp126 => ?_)
            obtain ⟨y126, u0_126, rfl, rfl, hu0_126⟩ := hp126
            refine (show Go g κ 129 [some (.ref a), some (.ref n0), some (.ref i63), none, none, none] [.ref y126] [w1, v0, [(it12, .inr (22, [.int (nI k), .int lr, .int md, .ref pl]))], v1, wc_2, [(a, .inr (2, [.int (nI (pNo r)), .ref ev, .ref pl, .int (oI (pEp r)), .int (nI (pLf r)), .ref nd, .int (nI (pOn r)), .int (nI (pKy r)), .ref ch, .int (oI (pRn r)), .ref x]))], u0_119, wb_c, u0_126] ((((67 - cap2) - (capN cap2 ((pOn r) / 64 + 1) - cap2)) - (capN (capN cap2 (pOn r / 64 + 1)) ((pKy r) / 64 + 1) - (capN cap2 (pOn r / 64 + 1)))) - 1) ((((190 - 2 * cap2) - (2 * (capN cap2 ((pOn r) / 64 + 1) - cap2))) - (2 * (capN (capN cap2 (pOn r / 64 + 1)) ((pKy r) / 64 + 1) - (capN cap2 (pOn r / 64 + 1))))) - 1) from ?_)
            refine g_callF (q := 134) (is := [8]) (kc2 := (((67 - cap2) - (capN cap2 ((pOn r) / 64 + 1) - cap2)) - (capN (capN cap2 (pOn r / 64 + 1)) ((pKy r) / 64 + 1) - (capN cap2 (pOn r / 64 + 1)))) - 2) (ks2 := (((190 - 2 * cap2) - (2 * (capN cap2 ((pOn r) / 64 + 1) - cap2))) - (2 * (capN (capN cap2 (pOn r / 64 + 1)) ((pKy r) / 64 + 1) - (capN cap2 (pOn r / 64 + 1))))) - 5) B [] (ct_J28_iterator_m g J (y := y126) (t := ch) (f := f_c) (n := nc) (md := mm_c) hu0_126 ) dX4_held_129 rfl (ci := 29) rfl (rc_in B (ci := 29) rfl (k := 8) rfl (MvP.hm hu0_126)) q1191 q1203 q920 q113 q922 q1193 q1192 q921 q919 q1202 rfl rfl mojava_util_Collection_iterator___Ljava_util_Iterator_ rfl rfl (by decide) (by decide) (Nat.le_of_ble_eq_true rfl) (by omega) (by omega) (fun _ _ hx => noX_x hx) (fun v129 L1 hp129 => ?_)
            obtain ⟨i129, u0_129, rfl, rfl, hu0_129⟩ := hp129
            refine (show Go g κ 134 [some (.ref a), some (.ref n0), some (.ref i63), none, none, none] [.ref i129] [w1, v0, [(it12, .inr (22, [.int (nI k), .int lr, .int md, .ref pl]))], v1, wc_2, [(a, .inr (2, [.int (nI (pNo r)), .ref ev, .ref pl, .int (oI (pEp r)), .int (nI (pLf r)), .ref nd, .int (nI (pOn r)), .int (nI (pKy r)), .ref ch, .int (oI (pRn r)), .ref x]))], u0_119, wb_c, u0_129] ((((67 - cap2) - (capN cap2 ((pOn r) / 64 + 1) - cap2)) - (capN (capN cap2 (pOn r / 64 + 1)) ((pKy r) / 64 + 1) - (capN cap2 (pOn r / 64 + 1)))) - 2) ((((190 - 2 * cap2) - (2 * (capN cap2 ((pOn r) / 64 + 1) - cap2))) - (2 * (capN (capN cap2 (pOn r / 64 + 1)) ((pKy r) / 64 + 1) - (capN cap2 (pOn r / 64 + 1))))) - 5) from ?_)
            refine g_astore_n (q := 135) (lv2 := [some (.ref a), some (.ref n0), some (.ref i129), none, none, none]) B dX4_held_134 rfl (Nat.le_of_ble_eq_true rfl) (rv_r _) rfl ?_
            have lp135 : ∀ (n135 : Nat) (j : Nat) (la : Option Nat) (S3 : Nat → Bool) (cap3 : Nat) (l135_6 : va_W) (l135_7 : va_W) (l135_8 : va_W), SetP g n0 S3 cap3 l135_6 → BgM (ChnP g) f_c (pCh r) l135_7 → MItP g 33 i129 ch f_c nc mm_c j la l135_8 → (j ≤ 16) → (∀ x, S3 x = true ↔ ((S2 x = true ∨ x = pOn r) ∨ x = pKy r) ∨ upT (pCh r) chH j x) → (cap3 ≤ 30) → 16 - j = n135 → Go g κ 135 [some (.ref a), some (.ref n0), some (.ref i129), none, none, none] [] [w1, v0, [(it12, .inr (22, [.int (nI k), .int lr, .int md, .ref pl]))], v1, wc_2, [(a, .inr (2, [.int (nI (pNo r)), .ref ev, .ref pl, .int (oI (pEp r)), .int (nI (pLf r)), .ref nd, .int (nI (pOn r)), .int (nI (pKy r)), .ref ch, .int (oI (pRn r)), .ref x]))], l135_6, l135_7, l135_8] (64 - cap3 - 2 * j) (170 - 2 * cap3 - 5 * j) := by
              intro n135
              induction n135 using Nat.strongRecOn with
              | _ n135 ih135 =>
              intro j la S3 cap3 l135_6 l135_7 l135_8 hl135_6 hl135_7 hl135_8 hj hS3 hc3 hmu135
              refine g_aload_n (q := 136) B dX4_held_135 rfl rfl (rv_r _) ?_
              refine g_callF (q := 141) (is := [8]) (kc2 := 64 - cap3 - 2 * j) (ks2 := 170 - 2 * cap3 - 5 * j) B [] (ct_J31_hasNext_mv g J (i := i129) (t := ch) (f := f_c) (n := nc) (md := mm_c) (j := j) (la := la) hl135_8 ) dX4_held_136 rfl (ci := 33) rfl (rc_in B (ci := 33) rfl (k := 8) rfl (MItP.hm hl135_8)) q1171 q961 q954 q116 q956 q938 q937 q955 q962 q960 rfl rfl mojava_util_Iterator_hasNext___Z rfl rfl (by decide) (by decide) (Nat.le_of_ble_eq_true rfl) (by omega) (by omega) (fun _ _ hx => noX_x hx) (fun v136 L1 hp136 => ?_)
              obtain ⟨hb136, u0_136, rfl, rfl, hu0_136, hbi_136⟩ := hp136
              refine (show Go g κ 141 [some (.ref a), some (.ref n0), some (.ref i129), none, none, none] [.int (nI (if hb136 = true then 1 else 0))] [w1, v0, [(it12, .inr (22, [.int (nI k), .int lr, .int md, .ref pl]))], v1, wc_2, [(a, .inr (2, [.int (nI (pNo r)), .ref ev, .ref pl, .int (oI (pEp r)), .int (nI (pLf r)), .ref nd, .int (nI (pOn r)), .int (nI (pKy r)), .ref ch, .int (oI (pRn r)), .ref x]))], l135_6, l135_7, u0_136] (64 - cap3 - 2 * j) (170 - 2 * cap3 - 5 * j) from ?_)
              refine g_if_eq (tgt := 213) (q := 144) B dX4_held_141 rfl (by decide) (bo_eq) (fun c141 => ?_) (fun c141 => ?_)
              · skip
                have hno141 := fun z => c141 (hbi_136.mpr z)
                have hS3e : ∀ x, S3 x = true ↔ ((S2 x = true ∨ x = pOn r) ∨ x = pKy r) ∨ ∃ n c, pCh r n = some c ∧ chH c x := by
                  intro x
                  rw [hS3 x, upT_e (fun ⟨q, h1, h2⟩ => hno141 ⟨q, h1, fun z => h2 ((MoE.iffB hl135_7 ho_c q).mp z)⟩)]
                obtain ⟨wz_5, wr_5, hpz_5, hmz_5⟩ := MItP.map hu0_136
                refine g_sub 8 rfl hpz_5 rfl ?_
                refine (show Go g κ 213 [some (.ref a), some (.ref n0), some (.ref i129), none, none, none] [] [w1, v0, [(it12, .inr (22, [.int (nI k), .int lr, .int md, .ref pl]))], v1, wc_2, [(a, .inr (2, [.int (nI (pNo r)), .ref ev, .ref pl, .int (oI (pEp r)), .int (nI (pLf r)), .ref nd, .int (nI (pOn r)), .int (nI (pKy r)), .ref ch, .int (oI (pRn r)), .ref x]))], l135_6, l135_7, wz_5] (64 - cap3 - 2 * j) (170 - 2 * cap3 - 5 * j) from ?_)
                obtain ⟨wc_6, ewc_6⟩ : ∃ w : va_W, w = ([wz_5, l135_7] : List va_W).flatten := ⟨_, rfl⟩
                have hwc_6 : MoP g (ChnP g) ch (pCh r) nc wc_6 := by
                  rw [ewc_6]
                  exact ⟨_, _, _, _, hmz_5, ho_c, hl135_7, rfl⟩
                refine g_close (w := wc_6) [8, 7] rfl ewc_6 rfl ?_
                refine (show Go g κ 213 [some (.ref a), some (.ref n0), some (.ref i129), none, none, none] [] [w1, v0, [(it12, .inr (22, [.int (nI k), .int lr, .int md, .ref pl]))], v1, wc_2, [(a, .inr (2, [.int (nI (pNo r)), .ref ev, .ref pl, .int (oI (pEp r)), .int (nI (pLf r)), .ref nd, .int (nI (pOn r)), .int (nI (pKy r)), .ref ch, .int (oI (pRn r)), .ref x]))], l135_6, wc_6] (64 - cap3 - 2 * j) (170 - 2 * cap3 - 5 * j) from ?_)
                refine g_fg 2 rfl ?_
                refine g_pk [0, 4, 0, 4, 3, 1, 1] rfl rfl ?_
                refine (show Go g κ 213 [some (.ref a), some (.ref n0), none, none, none, none] [] [w1, [(a, .inr (2, [.int (nI (pNo r)), .ref ev, .ref pl, .int (oI (pEp r)), .int (nI (pLf r)), .ref nd, .int (nI (pOn r)), .int (nI (pKy r)), .ref ch, .int (oI (pRn r)), .ref x]))], v0, wc_6, l135_6, v1, wc_2] (64 - cap3 - 2 * j) (170 - 2 * cap3 - 5 * j) from ?_)
                refine g_room (kc2 := 30 - cap3) (ks2 := 60 - 2 * cap3) (by omega) (by omega) ?_
                exact ct213 S3 cap3 wc_6 l135_6 hwc_6 hl135_6 (fun x => by rw [hS3e x, hS2e x, hS1e x]; exact hc_in c103) (by omega)
              · skip
                have c141 := Classical.not_not.mp c141
                have hne141 := hbi_136.mp c141
                refine g_aload_n (q := 145) B dX4_held_144 rfl rfl (rv_r _) ?_
                refine g_callF (q := 150) (is := [8]) (kc2 := 64 - cap3 - 2 * j) (ks2 := 170 - 2 * cap3 - 5 * j) B [] (ct_J34_next_m g J (i := i129) (t := ch) (f := f_c) (n := nc) (md := mm_c) (j := j) (la := la) hu0_136 (hne141)) dX4_held_145 rfl (ci := 33) rfl (rc_in B (ci := 33) rfl (k := 8) rfl (MItP.hm hu0_136)) q1173 q1042 q1044 q119 q1046 q966 q965 q1045 q1043 q960 rfl rfl mojava_util_Iterator_next___Ljava_lang_Object_ rfl rfl (by decide) (by decide) (Nat.le_of_ble_eq_true rfl) (by omega) (by omega) (fun _ _ hx => noX_x hx) (fun v145 L1 hp145 => ?_)
                obtain ⟨k145, v145, u0_145, rfl, rfl, hu0_145, hj_145, hk_145, hv_145, hbt_145⟩ := hp145
                refine (show Go g κ 150 [some (.ref a), some (.ref n0), some (.ref i129), none, none, none] [.ref v145] [w1, v0, [(it12, .inr (22, [.int (nI k), .int lr, .int md, .ref pl]))], v1, wc_2, [(a, .inr (2, [.int (nI (pNo r)), .ref ev, .ref pl, .int (oI (pEp r)), .int (nI (pLf r)), .ref nd, .int (nI (pOn r)), .int (nI (pKy r)), .ref ch, .int (oI (pRn r)), .ref x]))], l135_6, l135_7, u0_145] (64 - cap3 - 2 * j) (170 - 2 * cap3 - 5 * j) from ?_)
                obtain ⟨rv145, hrv145, hsv145⟩ := MoE.at hl135_7 ho_c hv_145
                refine g_castRS (ci := 7) (q := 153) B rfl (rc_in B (ci := 7) rfl (k := 7) rfl (Sub.hm (hsv145) fun _ z => ChnP.hm z)) dX4_held_150 rfl q1210 ?_
                refine g_astore_n (q := 154) (lv2 := [some (.ref a), some (.ref n0), some (.ref i129), some (.ref v145), none, none]) B dX4_held_153 rfl (Nat.le_of_ble_eq_true rfl) (rv_r _) rfl ?_
                obtain ⟨rq145, y1, y2, y3, hrq145, hq145, -, hcl145, hye⟩ := BgM.opn hl135_7 ho_c hv_145
                refine g_open 7 rfl hye rfl ?_
                refine (show Go g κ 154 [some (.ref a), some (.ref n0), some (.ref i129), some (.ref v145), none, none] [] [w1, v0, [(it12, .inr (22, [.int (nI k), .int lr, .int md, .ref pl]))], v1, wc_2, [(a, .inr (2, [.int (nI (pNo r)), .ref ev, .ref pl, .int (oI (pEp r)), .int (nI (pLf r)), .ref nd, .int (nI (pOn r)), .int (nI (pKy r)), .ref ch, .int (oI (pRn r)), .ref x]))], l135_6, u0_145, y1, y2, y3] (64 - cap3 - 2 * j) (170 - 2 * cap3 - 5 * j) from ?_)
                obtain ⟨hk16, hCb⟩ := hP.2.2.2.2.2.2.2.1 _ _ hrq145
                have hCb1 := hCb.1
                obtain ⟨lf_k, nl_k, v0_k, hC_k, hv0_k, rfl⟩ := hq145
                refine g_open 9 rfl rfl rfl ?_
                refine (show Go g κ 154 [some (.ref a), some (.ref n0), some (.ref i129), some (.ref v145), none, none] [] [w1, v0, [(it12, .inr (22, [.int (nI k), .int lr, .int md, .ref pl]))], v1, wc_2, [(a, .inr (2, [.int (nI (pNo r)), .ref ev, .ref pl, .int (oI (pEp r)), .int (nI (pLf r)), .ref nd, .int (nI (pOn r)), .int (nI (pKy r)), .ref ch, .int (oI (pRn r)), .ref x]))], l135_6, u0_145, y1, y3, [(v145, .inr (7, [.int (nI rq145.1), .int (nI rq145.2.1), .ref lf_k]))], v0_k] (64 - cap3 - 2 * j) (170 - 2 * cap3 - 5 * j) from ?_)
                refine g_aload_n (q := 155) B dX4_held_154 rfl rfl (rv_r _) ?_
                refine g_aload_n (q := 156) B dX4_held_155 rfl rfl (rv_r _) ?_
                refine g_getN (q := 159) B (ci := 7) (k := 10) (j := 0) in_X12 rfl dX4_held_156 rfl rfl (Nat.le_of_ble_eq_true rfl) q2190 rfl rfl ?_
                have hcn3 := capN_b (m := rq145.1 / 64 + 1) hc3 (by have := hCb.1; omega)
                refine g_callV (q := 162) (is := [6]) (kc2 := (64 - cap3 - 2 * j) - (capN cap3 (rq145.1 / 64 + 1) - cap3)) (ks2 := (170 - 2 * cap3 - 5 * j) - (2 * (capN cap3 (rq145.1 / 64 + 1) - cap3))) B [.int (nI rq145.1)] (ct_J5_set g J (b := n0) (S := S3) (cap := cap3) (i := rq145.1) (mc := (capN cap3 (rq145.1 / 64 + 1) - cap3)) (ms := (2 * (capN cap3 (rq145.1 / 64 + 1) - cap3))) hl135_6 (by omega) (by omega) ((capN_b hc3 (by omega)).2.2)) dX4_held_159 rfl (rc_in B (ci := 26) rfl (k := 6) rfl (SetP.hm hl135_6)) rfl q1175 q1056 q1057 q84 q1058 rfl rfl moJ5_set rfl rfl (by decide) (by decide) (Nat.le_of_ble_eq_true rfl) (by omega) (by omega) (fun _ _ hx => noX_x hx) (fun v159 L1 hp159 => ?_)
                obtain ⟨u0_159, rfl, rfl, hu0_159⟩ := hp159
                refine (show Go g κ 162 [some (.ref a), some (.ref n0), some (.ref i129), some (.ref v145), none, none] [] [w1, v0, [(it12, .inr (22, [.int (nI k), .int lr, .int md, .ref pl]))], v1, wc_2, [(a, .inr (2, [.int (nI (pNo r)), .ref ev, .ref pl, .int (oI (pEp r)), .int (nI (pLf r)), .ref nd, .int (nI (pOn r)), .int (nI (pKy r)), .ref ch, .int (oI (pRn r)), .ref x]))], u0_145, y1, y3, [(v145, .inr (7, [.int (nI rq145.1), .int (nI rq145.2.1), .ref lf_k]))], v0_k, u0_159] ((64 - cap3 - 2 * j) - (capN cap3 (rq145.1 / 64 + 1) - cap3)) ((170 - 2 * cap3 - 5 * j) - (2 * (capN cap3 (rq145.1 / 64 + 1) - cap3))) from ?_)
                refine g_aload_n (q := 163) B dX4_held_162 rfl rfl (rv_r _) ?_
                refine g_getN (q := 166) B (ci := 7) (k := 9) (j := 2) in_X12 rfl dX4_held_163 rfl rfl (Nat.le_of_ble_eq_true rfl) q2194 rfl rfl ?_
                obtain ⟨f_l, mm_l, wm_l, wb_l, hm_l, ho_l, hb_l, he_l⟩ := hv0_k
                refine g_open 10 rfl he_l rfl ?_
                refine (show Go g κ 166 [some (.ref a), some (.ref n0), some (.ref i129), some (.ref v145), none, none] [.ref lf_k] [w1, v0, [(it12, .inr (22, [.int (nI k), .int lr, .int md, .ref pl]))], v1, wc_2, [(a, .inr (2, [.int (nI (pNo r)), .ref ev, .ref pl, .int (oI (pEp r)), .int (nI (pLf r)), .ref nd, .int (nI (pOn r)), .int (nI (pKy r)), .ref ch, .int (oI (pRn r)), .ref x]))], u0_145, y1, y3, [(v145, .inr (7, [.int (nI rq145.1), .int (nI rq145.2.1), .ref lf_k]))], u0_159, wm_l, wb_l] ((64 - cap3 - 2 * j) - (capN cap3 (rq145.1 / 64 + 1) - cap3)) ((170 - 2 * cap3 - 5 * j) - (2 * (capN cap3 (rq145.1 / 64 + 1) - cap3))) from ?_)
                refine g_callV (q := 169) (is := [11]) (kc2 := ((64 - cap3 - 2 * j) - (capN cap3 (rq145.1 / 64 + 1) - cap3)) - 1) (ks2 := ((170 - 2 * cap3 - 5 * j) - (2 * (capN cap3 (rq145.1 / 64 + 1) - cap3))) - 1) B [] (ct_J10_values_m g J (t := lf_k) (f := f_l) (n := nl_k) (md := mm_l) hm_l ) dX4_held_166 rfl (rc_in B (ci := 27) rfl (k := 11) rfl (MapP.hm hm_l)) rfl q1176 q1177 q1178 q91 q1179 rfl rfl moJ10_values rfl rfl (by decide) (by decide) (Nat.le_of_ble_eq_true rfl) (by omega) (by omega) (fun _ _ hx => noX_x hx) (fun v166 L1 hp166 => ?_)
                obtain ⟨y166, u0_166, rfl, rfl, hu0_166⟩ := hp166
                refine (show Go g κ 169 [some (.ref a), some (.ref n0), some (.ref i129), some (.ref v145), none, none] [.ref y166] [w1, v0, [(it12, .inr (22, [.int (nI k), .int lr, .int md, .ref pl]))], v1, wc_2, [(a, .inr (2, [.int (nI (pNo r)), .ref ev, .ref pl, .int (oI (pEp r)), .int (nI (pLf r)), .ref nd, .int (nI (pOn r)), .int (nI (pKy r)), .ref ch, .int (oI (pRn r)), .ref x]))], u0_145, y1, y3, [(v145, .inr (7, [.int (nI rq145.1), .int (nI rq145.2.1), .ref lf_k]))], u0_159, wb_l, u0_166] (((64 - cap3 - 2 * j) - (capN cap3 (rq145.1 / 64 + 1) - cap3)) - 1) (((170 - 2 * cap3 - 5 * j) - (2 * (capN cap3 (rq145.1 / 64 + 1) - cap3))) - 1) from ?_)
                refine g_callF (q := 174) (is := [12]) (kc2 := ((64 - cap3 - 2 * j) - (capN cap3 (rq145.1 / 64 + 1) - cap3)) - 2) (ks2 := ((170 - 2 * cap3 - 5 * j) - (2 * (capN cap3 (rq145.1 / 64 + 1) - cap3))) - 5) B [] (ct_J28_iterator_m g J (y := y166) (t := lf_k) (f := f_l) (n := nl_k) (md := mm_l) hu0_166 ) dX4_held_169 rfl (ci := 29) rfl (rc_in B (ci := 29) rfl (k := 12) rfl (MvP.hm hu0_166)) q1191 q1203 q920 q113 q922 q1193 q1192 q921 q919 q1202 rfl rfl mojava_util_Collection_iterator___Ljava_util_Iterator_ rfl rfl (by decide) (by decide) (Nat.le_of_ble_eq_true rfl) (by omega) (by omega) (fun _ _ hx => noX_x hx) (fun v169 L1 hp169 => ?_)
                obtain ⟨i169, u0_169, rfl, rfl, hu0_169⟩ := hp169
                refine (show Go g κ 174 [some (.ref a), some (.ref n0), some (.ref i129), some (.ref v145), none, none] [.ref i169] [w1, v0, [(it12, .inr (22, [.int (nI k), .int lr, .int md, .ref pl]))], v1, wc_2, [(a, .inr (2, [.int (nI (pNo r)), .ref ev, .ref pl, .int (oI (pEp r)), .int (nI (pLf r)), .ref nd, .int (nI (pOn r)), .int (nI (pKy r)), .ref ch, .int (oI (pRn r)), .ref x]))], u0_145, y1, y3, [(v145, .inr (7, [.int (nI rq145.1), .int (nI rq145.2.1), .ref lf_k]))], u0_159, wb_l, u0_169] (((64 - cap3 - 2 * j) - (capN cap3 (rq145.1 / 64 + 1) - cap3)) - 2) (((170 - 2 * cap3 - 5 * j) - (2 * (capN cap3 (rq145.1 / 64 + 1) - cap3))) - 5) from ?_)
                refine g_astore (q := 176) (lv2 := [some (.ref a), some (.ref n0), some (.ref i129), some (.ref v145), some (.ref i169), none]) B dX4_held_174 rfl (Nat.le_of_ble_eq_true rfl) (rv_r _) rfl ?_
                have lp176 : ∀ (n176 : Nat) (j2 : Nat) (la2 : Option Nat) (S4 : Nat → Bool) (cap4 : Nat) (l176_10 : va_W) (l176_12 : va_W), SetP g n0 S4 cap4 l176_10 → MItP g 33 i169 lf_k f_l nl_k mm_l j2 la2 l176_12 → (j2 ≤ 128) → (∀ x, S4 x = true ↔ (S3 x = true ∨ x = rq145.1) ∨ upT rq145.2.2 (fun n x => x = n) j2 x) → (cap4 ≤ 30) → 128 - j2 = n176 → Go g κ 176 [some (.ref a), some (.ref n0), some (.ref i129), some (.ref v145), some (.ref i169), none] [] [w1, v0, [(it12, .inr (22, [.int (nI k), .int lr, .int md, .ref pl]))], v1, wc_2, [(a, .inr (2, [.int (nI (pNo r)), .ref ev, .ref pl, .int (oI (pEp r)), .int (nI (pLf r)), .ref nd, .int (nI (pOn r)), .int (nI (pKy r)), .ref ch, .int (oI (pRn r)), .ref x]))], u0_145, y1, y3, [(v145, .inr (7, [.int (nI rq145.1), .int (nI rq145.2.1), .ref lf_k]))], l176_10, wb_l, l176_12] (62 - cap4 - 2 * j) (165 - 2 * cap4 - 5 * j) := by
                  intro n176
                  induction n176 using Nat.strongRecOn with
                  | _ n176 ih176 =>
                  intro j2 la2 S4 cap4 l176_10 l176_12 hl176_10 hl176_12 hj2 hS4 hc4 hmu176
                  refine g_aload (q := 178) B dX4_held_176 rfl rfl (rv_r _) ?_
                  refine g_callF (q := 183) (is := [12]) (kc2 := 62 - cap4 - 2 * j) (ks2 := 165 - 2 * cap4 - 5 * j) B [] (ct_J31_hasNext_mv g J (i := i169) (t := lf_k) (f := f_l) (n := nl_k) (md := mm_l) (j := j2) (la := la2) hl176_12 ) dX4_held_178 rfl (ci := 33) rfl (rc_in B (ci := 33) rfl (k := 12) rfl (MItP.hm hl176_12)) q1171 q961 q954 q116 q956 q938 q937 q955 q962 q960 rfl rfl mojava_util_Iterator_hasNext___Z rfl rfl (by decide) (by decide) (Nat.le_of_ble_eq_true rfl) (by omega) (by omega) (fun _ _ hx => noX_x hx) (fun v178 L1 hp178 => ?_)
                  obtain ⟨hb178, u0_178, rfl, rfl, hu0_178, hbi_178⟩ := hp178
                  refine (show Go g κ 183 [some (.ref a), some (.ref n0), some (.ref i129), some (.ref v145), some (.ref i169), none] [.int (nI (if hb178 = true then 1 else 0))] [w1, v0, [(it12, .inr (22, [.int (nI k), .int lr, .int md, .ref pl]))], v1, wc_2, [(a, .inr (2, [.int (nI (pNo r)), .ref ev, .ref pl, .int (oI (pEp r)), .int (nI (pLf r)), .ref nd, .int (nI (pOn r)), .int (nI (pKy r)), .ref ch, .int (oI (pRn r)), .ref x]))], u0_145, y1, y3, [(v145, .inr (7, [.int (nI rq145.1), .int (nI rq145.2.1), .ref lf_k]))], l176_10, wb_l, u0_178] (62 - cap4 - 2 * j) (165 - 2 * cap4 - 5 * j) from ?_)
                  refine g_if_eq (tgt := 210) (q := 186) B dX4_held_183 rfl (by decide) (bo_eq) (fun c183 => ?_) (fun c183 => ?_)
                  · skip
                    have hno183 := fun z => c183 (hbi_178.mpr z)
                    have hS4e : ∀ x, S4 x = true ↔ S3 x = true ∨ chH rq145 x := by
                      intro x
                      rw [hS4 x, upT_e (fun ⟨q, h1, h2⟩ => hno183 ⟨q, h1, fun z => h2 ((MoE.iffB hb_l ho_l q).mp z)⟩), or_assoc]
                      refine or_congr_right ?_
                      unfold chH
                      exact or_congr_right ⟨fun ⟨n, c, h1, h2⟩ => ⟨n, by rw [h2]; exact h1⟩, fun ⟨n, h⟩ => ⟨n, x, h, rfl⟩⟩
                    obtain ⟨wz_7, wr_7, hpz_7, hmz_7⟩ := MItP.map hu0_178
                    refine g_sub 12 rfl hpz_7 rfl ?_
                    refine (show Go g κ 210 [some (.ref a), some (.ref n0), some (.ref i129), some (.ref v145), some (.ref i169), none] [] [w1, v0, [(it12, .inr (22, [.int (nI k), .int lr, .int md, .ref pl]))], v1, wc_2, [(a, .inr (2, [.int (nI (pNo r)), .ref ev, .ref pl, .int (oI (pEp r)), .int (nI (pLf r)), .ref nd, .int (nI (pOn r)), .int (nI (pKy r)), .ref ch, .int (oI (pRn r)), .ref x]))], u0_145, y1, y3, [(v145, .inr (7, [.int (nI rq145.1), .int (nI rq145.2.1), .ref lf_k]))], l176_10, wb_l, wz_7] (62 - cap4 - 2 * j) (165 - 2 * cap4 - 5 * j) from ?_)
                    obtain ⟨wc_8, ewc_8⟩ : ∃ w : va_W, w = ([wz_7, wb_l] : List va_W).flatten := ⟨_, rfl⟩
                    have hwc_8 : MoP g (BxE g) lf_k rq145.2.2 nl_k wc_8 := by
                      rw [ewc_8]
                      exact ⟨_, _, _, _, hmz_7, ho_l, hb_l, rfl⟩
                    refine g_close (w := wc_8) [12, 11] rfl ewc_8 rfl ?_
                    refine (show Go g κ 210 [some (.ref a), some (.ref n0), some (.ref i129), some (.ref v145), some (.ref i169), none] [] [w1, v0, [(it12, .inr (22, [.int (nI k), .int lr, .int md, .ref pl]))], v1, wc_2, [(a, .inr (2, [.int (nI (pNo r)), .ref ev, .ref pl, .int (oI (pEp r)), .int (nI (pLf r)), .ref nd, .int (nI (pOn r)), .int (nI (pKy r)), .ref ch, .int (oI (pRn r)), .ref x]))], u0_145, y1, y3, [(v145, .inr (7, [.int (nI rq145.1), .int (nI rq145.2.1), .ref lf_k]))], l176_10, wc_8] (62 - cap4 - 2 * j) (165 - 2 * cap4 - 5 * j) from ?_)
                    obtain ⟨wc_9, ewc_9⟩ : ∃ w : va_W, w = ([[(v145, .inr (7, [.int (nI rq145.1), .int (nI rq145.2.1), .ref lf_k]))], wc_8] : List va_W).flatten := ⟨_, rfl⟩
                    have hwc_9 : ChnP g v145 rq145 wc_9 := by
                      rw [ewc_9]
                      exact ⟨lf_k, nl_k, _, hC_k, hwc_8, rfl⟩
                    refine g_close (w := wc_9) [9, 10] rfl ewc_9 rfl ?_
                    refine (show Go g κ 210 [some (.ref a), some (.ref n0), some (.ref i129), some (.ref v145), some (.ref i169), none] [] [w1, v0, [(it12, .inr (22, [.int (nI k), .int lr, .int md, .ref pl]))], v1, wc_2, [(a, .inr (2, [.int (nI (pNo r)), .ref ev, .ref pl, .int (oI (pEp r)), .int (nI (pLf r)), .ref nd, .int (nI (pOn r)), .int (nI (pKy r)), .ref ch, .int (oI (pRn r)), .ref x]))], u0_145, y1, y3, l176_10, wc_9] (62 - cap4 - 2 * j) (165 - 2 * cap4 - 5 * j) from ?_)
                    obtain ⟨wc_10, ewc_10⟩ : ∃ w : va_W, w = ([y1, wc_9, y3] : List va_W).flatten := ⟨_, rfl⟩
                    have hwc_10 : BgM (ChnP g) f_c (pCh r) wc_10 := by
                      rw [ewc_10]
                      exact hcl145 _ hwc_9
                    refine g_close (w := wc_10) [7, 9, 7] rfl ewc_10 rfl ?_
                    refine (show Go g κ 210 [some (.ref a), some (.ref n0), some (.ref i129), some (.ref v145), some (.ref i169), none] [] [w1, v0, [(it12, .inr (22, [.int (nI k), .int lr, .int md, .ref pl]))], v1, wc_2, [(a, .inr (2, [.int (nI (pNo r)), .ref ev, .ref pl, .int (oI (pEp r)), .int (nI (pLf r)), .ref nd, .int (nI (pOn r)), .int (nI (pKy r)), .ref ch, .int (oI (pRn r)), .ref x]))], u0_145, l176_10, wc_10] (62 - cap4 - 2 * j) (165 - 2 * cap4 - 5 * j) from ?_)
                    refine g_goto (tgt := 135) B dX4_held_210 (by decide) ?_
                    refine g_fg 3 rfl ?_
                    refine g_fg 4 rfl ?_
                    refine g_pk [0, 0, 0, 0, 0, 0, 1, 1, 0] rfl rfl ?_
                    refine (show Go g κ 135 [some (.ref a), some (.ref n0), some (.ref i129), none, none, none] [] [w1, v0, [(it12, .inr (22, [.int (nI k), .int lr, .int md, .ref pl]))], v1, wc_2, [(a, .inr (2, [.int (nI (pNo r)), .ref ev, .ref pl, .int (oI (pEp r)), .int (nI (pLf r)), .ref nd, .int (nI (pOn r)), .int (nI (pKy r)), .ref ch, .int (oI (pRn r)), .ref x]))], l176_10, wc_10, u0_145] (62 - cap4 - 2 * j) (165 - 2 * cap4 - 5 * j) from ?_)
                    refine g_room (kc2 := 64 - cap4 - 2 * (k145 + 1)) (ks2 := 170 - 2 * cap4 - 5 * (k145 + 1)) (by omega) (by omega) ?_
                    exact ih135 _ (by omega) (k145 + 1) (some k145) S4 cap4 l176_10 wc_10 u0_145 hl176_10 hwc_10 hu0_145 (by omega) (fun x => by rw [hS4e x, hS3 x, upT_s hj_145 hrq145 (fun q h1 h2 => (MoE.iffB hwc_10 ho_c q).mp (hbt_145 q h1 h2)), or_assoc]) (by omega) rfl
                  · skip
                    have c183 := Classical.not_not.mp c183
                    have hne183 := hbi_178.mp c183
                    refine g_aload (q := 188) B dX4_held_186 rfl rfl (rv_r _) ?_
                    refine g_callF (q := 193) (is := [12]) (kc2 := 62 - cap4 - 2 * j) (ks2 := 165 - 2 * cap4 - 5 * j) B [] (ct_J34_next_m g J (i := i169) (t := lf_k) (f := f_l) (n := nl_k) (md := mm_l) (j := j2) (la := la2) hu0_178 (hne183)) dX4_held_188 rfl (ci := 33) rfl (rc_in B (ci := 33) rfl (k := 12) rfl (MItP.hm hu0_178)) q1173 q1042 q1044 q119 q1046 q966 q965 q1045 q1043 q960 rfl rfl mojava_util_Iterator_next___Ljava_lang_Object_ rfl rfl (by decide) (by decide) (Nat.le_of_ble_eq_true rfl) (by omega) (by omega) (fun _ _ hx => noX_x hx) (fun v188 L1 hp188 => ?_)
                    obtain ⟨k188, v188, u0_188, rfl, rfl, hu0_188, hj_188, hk_188, hv_188, hbt_188⟩ := hp188
                    refine (show Go g κ 193 [some (.ref a), some (.ref n0), some (.ref i129), some (.ref v145), some (.ref i169), none] [.ref v188] [w1, v0, [(it12, .inr (22, [.int (nI k), .int lr, .int md, .ref pl]))], v1, wc_2, [(a, .inr (2, [.int (nI (pNo r)), .ref ev, .ref pl, .int (oI (pEp r)), .int (nI (pLf r)), .ref nd, .int (nI (pOn r)), .int (nI (pKy r)), .ref ch, .int (oI (pRn r)), .ref x]))], u0_145, y1, y3, [(v145, .inr (7, [.int (nI rq145.1), .int (nI rq145.2.1), .ref lf_k]))], l176_10, wb_l, u0_188] (62 - cap4 - 2 * j) (165 - 2 * cap4 - 5 * j) from ?_)
                    obtain ⟨rv188, hrv188, hsv188⟩ := MoE.at hb_l ho_l hv_188
                    have hbv188 := Sub.box hsv188
                    have hb188 := hCb.2.2 _ _ hrv188
                    refine g_castRS (ci := 35) (q := 196) B rfl (rc_bxat B J (k := 11) rfl hbv188) dX4_held_193 rfl q1204 ?_
                    refine g_callV (q := 199) (is := [11]) (kc2 := 62 - cap4 - 2 * j) (ks2 := 165 - 2 * cap4 - 5 * j) B [] (ct_J26_intValue_b g J (a := v188) (v := nI rv188) (wb := wb_l)  (hbv188)) dX4_held_196 rfl (rc_bxat B J (k := 11) rfl hbv188) rfl q1205 q1052 q1053 q111 q1054 rfl rfl moJ26_intValue rfl rfl (by decide) (by decide) (Nat.le_of_ble_eq_true rfl) (by omega) (by omega) (fun _ _ hx => noX_x hx) (fun v196 L1 hp196 => ?_)
                    obtain ⟨rfl, rfl⟩ := hp196
                    refine (show Go g κ 199 [some (.ref a), some (.ref n0), some (.ref i129), some (.ref v145), some (.ref i169), none] [.int (nI rv188)] [w1, v0, [(it12, .inr (22, [.int (nI k), .int lr, .int md, .ref pl]))], v1, wc_2, [(a, .inr (2, [.int (nI (pNo r)), .ref ev, .ref pl, .int (oI (pEp r)), .int (nI (pLf r)), .ref nd, .int (nI (pOn r)), .int (nI (pKy r)), .ref ch, .int (oI (pRn r)), .ref x]))], u0_145, y1, y3, [(v145, .inr (7, [.int (nI rq145.1), .int (nI rq145.2.1), .ref lf_k]))], l176_10, u0_188, wb_l] (62 - cap4 - 2 * j) (165 - 2 * cap4 - 5 * j) from ?_)
                    refine g_istore (q := 201) (lv2 := [some (.ref a), some (.ref n0), some (.ref i129), some (.ref v145), some (.ref i169), some (.int (nI rv188))]) B dX4_held_199 rfl (Nat.le_of_ble_eq_true rfl) rfl ?_
                    refine g_aload_n (q := 202) B dX4_held_201 rfl rfl (rv_r _) ?_
                    refine g_iload (q := 204) B dX4_held_202 rfl rfl ?_
                    have hcn4 := capN_b (m := rv188 / 64 + 1) hc4 (by omega)
                    refine g_callV (q := 207) (is := [10]) (kc2 := (62 - cap4 - 2 * j) - (capN cap4 (rv188 / 64 + 1) - cap4)) (ks2 := (165 - 2 * cap4 - 5 * j) - (2 * (capN cap4 (rv188 / 64 + 1) - cap4))) B [.int (nI rv188)] (ct_J5_set g J (b := n0) (S := S4) (cap := cap4) (i := rv188) (mc := (capN cap4 (rv188 / 64 + 1) - cap4)) (ms := (2 * (capN cap4 (rv188 / 64 + 1) - cap4))) hl176_10 (by omega) (by omega) ((capN_b hc4 (by omega)).2.2)) dX4_held_204 rfl (rc_in B (ci := 26) rfl (k := 10) rfl (SetP.hm hl176_10)) rfl q1175 q1056 q1057 q84 q1058 rfl rfl moJ5_set rfl rfl (by decide) (by decide) (Nat.le_of_ble_eq_true rfl) (by omega) (by omega) (fun _ _ hx => noX_x hx) (fun v204 L1 hp204 => ?_)
                    obtain ⟨u0_204, rfl, rfl, hu0_204⟩ := hp204
                    refine (show Go g κ 207 [some (.ref a), some (.ref n0), some (.ref i129), some (.ref v145), some (.ref i169), some (.int (nI rv188))] [] [w1, v0, [(it12, .inr (22, [.int (nI k), .int lr, .int md, .ref pl]))], v1, wc_2, [(a, .inr (2, [.int (nI (pNo r)), .ref ev, .ref pl, .int (oI (pEp r)), .int (nI (pLf r)), .ref nd, .int (nI (pOn r)), .int (nI (pKy r)), .ref ch, .int (oI (pRn r)), .ref x]))], u0_145, y1, y3, [(v145, .inr (7, [.int (nI rq145.1), .int (nI rq145.2.1), .ref lf_k]))], u0_188, wb_l, u0_204] ((62 - cap4 - 2 * j) - (capN cap4 (rv188 / 64 + 1) - cap4)) ((165 - 2 * cap4 - 5 * j) - (2 * (capN cap4 (rv188 / 64 + 1) - cap4))) from ?_)
                    refine g_goto (tgt := 176) B dX4_held_207 (by decide) ?_
                    refine g_fg 5 rfl ?_
                    refine g_pk [0, 0, 0, 0, 0, 0, 0, 0, 0, 0, 2, 1, 0] rfl rfl ?_
                    refine (show Go g κ 176 [some (.ref a), some (.ref n0), some (.ref i129), some (.ref v145), some (.ref i169), none] [] [w1, v0, [(it12, .inr (22, [.int (nI k), .int lr, .int md, .ref pl]))], v1, wc_2, [(a, .inr (2, [.int (nI (pNo r)), .ref ev, .ref pl, .int (oI (pEp r)), .int (nI (pLf r)), .ref nd, .int (nI (pOn r)), .int (nI (pKy r)), .ref ch, .int (oI (pRn r)), .ref x]))], u0_145, y1, y3, [(v145, .inr (7, [.int (nI rq145.1), .int (nI rq145.2.1), .ref lf_k]))], u0_204, wb_l, u0_188] ((62 - cap4 - 2 * j) - (capN cap4 (rv188 / 64 + 1) - cap4)) ((165 - 2 * cap4 - 5 * j) - (2 * (capN cap4 (rv188 / 64 + 1) - cap4))) from ?_)
                    refine g_room (kc2 := 62 - (capN cap4 (rv188 / 64 + 1)) - 2 * j) (ks2 := 165 - 2 * (capN cap4 (rv188 / 64 + 1)) - 5 * j) (by omega) (by omega) ?_
                    exact ih176 _ (by omega) (k188 + 1) (some k188) (sIns S4 rv188) (capN cap4 (rv188 / 64 + 1)) u0_204 u0_188 hu0_204 hu0_188 (by omega) (fun x => by rw [sIns_iff, hS4, upT_s hj_188 hrv188 (fun q h1 h2 => (MoE.iffB hb_l ho_l q).mp (hbt_188 q h1 h2)), or_assoc]) (by omega) rfl
                refine g_room (kc2 := 62 - (capN cap3 (rq145.1 / 64 + 1)) - 2 * j) (ks2 := 165 - 2 * (capN cap3 (rq145.1 / 64 + 1)) - 5 * j) (by omega) (by omega) ?_
                exact lp176 _ 0 none (sIns S3 rq145.1) (capN cap3 (rq145.1 / 64 + 1)) u0_159 u0_169 hu0_159 hu0_169 (Nat.zero_le _) (fun x => by rw [sIns_iff]; exact ⟨Or.inl, fun h => h.elim id fun z => absurd z upT_0⟩) (by omega) rfl
            refine g_room (kc2 := 64 - (capN (capN cap2 ((pOn r) / 64 + 1)) ((pKy r) / 64 + 1)) - 2 * 0) (ks2 := 170 - 2 * (capN (capN cap2 ((pOn r) / 64 + 1)) ((pKy r) / 64 + 1)) - 5 * 0) (by omega) (by omega) ?_
            exact lp135 _ 0 none (sIns (sIns S2 (pOn r)) (pKy r)) (capN (capN cap2 ((pOn r) / 64 + 1)) ((pKy r) / 64 + 1)) u0_119 wb_c u0_129 hu0_119 hb_c hu0_129 (Nat.zero_le _) (fun x => by rw [sIns_iff, sIns_iff]; exact ⟨Or.inl, fun h => h.elim id fun z => absurd z upT_0⟩) (by omega) rfl
        · skip
          have c75 := Classical.not_not.mp c75
          have hne75 := hbi_70.mp c75
          refine g_aload_n (q := 79) B dX4_held_78 rfl rfl (rv_r _) ?_
          refine g_callF (q := 84) (is := [8]) (kc2 := 67 - cap2) (ks2 := 190 - 2 * cap2) B [] (ct_J34_next_m g J (i := i63) (t := nd) (f := f_n) (n := nn) (md := mm_n) (j := j) (la := la) hu0_70 (hne75)) dX4_held_79 rfl (ci := 33) rfl (rc_in B (ci := 33) rfl (k := 8) rfl (MItP.hm hu0_70)) q1173 q1042 q1044 q119 q1046 q966 q965 q1045 q1043 q960 rfl rfl mojava_util_Iterator_next___Ljava_lang_Object_ rfl rfl (by decide) (by decide) (Nat.le_of_ble_eq_true rfl) (by omega) (by omega) (fun _ _ hx => noX_x hx) (fun v79 L1 hp79 => ?_)
          obtain ⟨k79, v79, u0_79, rfl, rfl, hu0_79, hj_79, hk_79, hv_79, hbt_79⟩ := hp79
          refine (show Go g κ 84 [some (.ref a), some (.ref n0), some (.ref i63), none, none, none] [.ref v79] [w1, [(a, .inr (2, [.int (nI (pNo r)), .ref ev, .ref pl, .int (oI (pEp r)), .int (nI (pLf r)), .ref nd, .int (nI (pOn r)), .int (nI (pKy r)), .ref ch, .int (oI (pRn r)), .ref x]))], v0, v3, l69_4, [(it12, .inr (22, [.int (nI k), .int lr, .int md, .ref pl]))], v1, wb_n, u0_79] (67 - cap2) (190 - 2 * cap2) from ?_)
          obtain ⟨rv79, hrv79, hsv79⟩ := MoE.at hb_n ho_n hv_79
          have hbv79 := Sub.box hsv79
          have hb79 := hP.2.2.2.2.2.2.1 _ _ hrv79
          refine g_castRS (ci := 35) (q := 87) B rfl (rc_bxat B J (k := 7) rfl hbv79) dX4_held_84 rfl q1204 ?_
          refine g_callV (q := 90) (is := [7]) (kc2 := 67 - cap2) (ks2 := 190 - 2 * cap2) B [] (ct_J26_intValue_b g J (a := v79) (v := nI rv79) (wb := wb_n)  (hbv79)) dX4_held_87 rfl (rc_bxat B J (k := 7) rfl hbv79) rfl q1205 q1052 q1053 q111 q1054 rfl rfl moJ26_intValue rfl rfl (by decide) (by decide) (Nat.le_of_ble_eq_true rfl) (by omega) (by omega) (fun _ _ hx => noX_x hx) (fun v87 L1 hp87 => ?_)
          obtain ⟨rfl, rfl⟩ := hp87
          refine (show Go g κ 90 [some (.ref a), some (.ref n0), some (.ref i63), none, none, none] [.int (nI rv79)] [w1, [(a, .inr (2, [.int (nI (pNo r)), .ref ev, .ref pl, .int (oI (pEp r)), .int (nI (pLf r)), .ref nd, .int (nI (pOn r)), .int (nI (pKy r)), .ref ch, .int (oI (pRn r)), .ref x]))], v0, v3, l69_4, [(it12, .inr (22, [.int (nI k), .int lr, .int md, .ref pl]))], v1, u0_79, wb_n] (67 - cap2) (190 - 2 * cap2) from ?_)
          refine g_istore_n (q := 91) (lv2 := [some (.ref a), some (.ref n0), some (.ref i63), some (.int (nI rv79)), none, none]) B dX4_held_90 rfl (Nat.le_of_ble_eq_true rfl) rfl ?_
          refine g_aload_n (q := 92) B dX4_held_91 rfl rfl (rv_r _) ?_
          refine g_iload_n (q := 93) B dX4_held_92 rfl rfl ?_
          have hcn := capN_b (m := rv79 / 64 + 1) hc2 (by omega)
          refine g_callV (q := 96) (is := [4]) (kc2 := (67 - cap2) - (capN cap2 (rv79 / 64 + 1) - cap2)) (ks2 := (190 - 2 * cap2) - (2 * (capN cap2 (rv79 / 64 + 1) - cap2))) B [.int (nI rv79)] (ct_J5_set g J (b := n0) (S := S2) (cap := cap2) (i := rv79) (mc := (capN cap2 (rv79 / 64 + 1) - cap2)) (ms := (2 * (capN cap2 (rv79 / 64 + 1) - cap2))) hl69_4 (by omega) (by omega) ((capN_b hc2 (by omega)).2.2)) dX4_held_93 rfl (rc_in B (ci := 26) rfl (k := 4) rfl (SetP.hm hl69_4)) rfl q1175 q1056 q1057 q84 q1058 rfl rfl moJ5_set rfl rfl (by decide) (by decide) (Nat.le_of_ble_eq_true rfl) (by omega) (by omega) (fun _ _ hx => noX_x hx) (fun v93 L1 hp93 => ?_)
          obtain ⟨u0_93, rfl, rfl, hu0_93⟩ := hp93
          refine (show Go g κ 96 [some (.ref a), some (.ref n0), some (.ref i63), some (.int (nI rv79)), none, none] [] [w1, [(a, .inr (2, [.int (nI (pNo r)), .ref ev, .ref pl, .int (oI (pEp r)), .int (nI (pLf r)), .ref nd, .int (nI (pOn r)), .int (nI (pKy r)), .ref ch, .int (oI (pRn r)), .ref x]))], v0, v3, [(it12, .inr (22, [.int (nI k), .int lr, .int md, .ref pl]))], v1, u0_79, wb_n, u0_93] ((67 - cap2) - (capN cap2 (rv79 / 64 + 1) - cap2)) ((190 - 2 * cap2) - (2 * (capN cap2 (rv79 / 64 + 1) - cap2))) from ?_)
          refine g_goto (tgt := 69) B dX4_held_96 (by decide) ?_
          refine g_fg 3 rfl ?_
          refine g_pk [0, 0, 0, 0, 4, 0, 0, 1, 0] rfl rfl ?_
          refine (show Go g κ 69 [some (.ref a), some (.ref n0), some (.ref i63), none, none, none] [] [w1, [(a, .inr (2, [.int (nI (pNo r)), .ref ev, .ref pl, .int (oI (pEp r)), .int (nI (pLf r)), .ref nd, .int (nI (pOn r)), .int (nI (pKy r)), .ref ch, .int (oI (pRn r)), .ref x]))], v0, v3, u0_93, [(it12, .inr (22, [.int (nI k), .int lr, .int md, .ref pl]))], v1, wb_n, u0_79] ((67 - cap2) - (capN cap2 (rv79 / 64 + 1) - cap2)) ((190 - 2 * cap2) - (2 * (capN cap2 (rv79 / 64 + 1) - cap2))) from ?_)
          refine g_room (kc2 := 67 - (capN cap2 (rv79 / 64 + 1))) (ks2 := 190 - 2 * (capN cap2 (rv79 / 64 + 1))) (by omega) (by omega) ?_
          exact ih69 _ (by omega) (k79 + 1) (some k79) (sIns S2 rv79) (capN cap2 (rv79 / 64 + 1)) u0_93 u0_79 hu0_93 hu0_79 (by omega) (fun x => by rw [sIns_iff, hS2, upT_s hj_79 hrv79 (fun q h1 h2 => (MoE.iffB hb_n ho_n q).mp (hbt_79 q h1 h2)), or_assoc]) (by omega) rfl
      refine g_room (kc2 := 67 - cap1) (ks2 := 190 - 2 * cap1) (by omega) (by omega) ?_
      exact lp69 _ 0 none S1 cap1 l18_5 u0_63 hl18_5 hu0_63 (Nat.zero_le _) (fun x => ⟨Or.inl, fun h => h.elim id fun z => absurd z upT_0⟩) (hc1) rfl
    · skip
      have c24 := Classical.not_not.mp c24
      refine g_aload_n (q := 28) B dX4_held_27 rfl rfl (rv_r _) ?_
      obtain ⟨id, hid⟩ := get_ex (xs := pPk r) (i := k) (by have := hpa.1; omega)
      obtain ⟨pa, hpp, hpk⟩ := hpa.2 k id hid
      obtain ⟨md_11, hli_11, hln_11, hel_11⟩ := LoP.at (Sub.self hw1)
      obtain ⟨q, hq⟩ := get_ex (xs := Ks) (i := id) (hkb id (List.mem_of_getElem? hid))
      have hE_12 := hel_11 _ _ _ hpk hq
      obtain ⟨hq1, hq2, hq3, hq4⟩ := (PackP.at (hE_12)).1
      refine g_callF (q := 33) (is := [6, 6]) (kc2 := 72 - cap1) (ks2 := 200 - 2 * cap1) B [] (ct_J19_next g J (p := pl) (xs := plc) (md := md) (cap := pcap) (it := it12) (c := k) (lr := lr) (x := pa) hv1 (hpp)) dX4_held_28 rfl (ci := 22) rfl (rc_at B (ci := 22) rfl (k := 6) rfl) q1173 q967 q969 q104 q971 q966 q965 q970 q968 q939 rfl rfl mojava_util_Iterator_next___Ljava_lang_Object_ rfl rfl (by decide) (by decide) (Nat.le_of_ble_eq_true rfl) (by omega) (by omega) (fun _ _ hx => noX_x hx) (fun v28 L1 hp28 => ?_)
      obtain ⟨rfl, rfl⟩ := hp28
      refine (show Go g κ 33 [some (.ref a), some (.ref n0), some (.ref it12), none, none, none] [.ref pa] [w1, [(a, .inr (2, [.int (nI (pNo r)), .ref ev, .ref pl, .int (oI (pEp r)), .int (nI (pLf r)), .ref nd, .int (nI (pOn r)), .int (nI (pKy r)), .ref ch, .int (oI (pRn r)), .ref x]))], v0, v2, v3, l18_5, [(it12, .inr (22, [.int (nI (k + 1)), .int (nI k), .int md, .ref pl]))], v1] (72 - cap1) (200 - 2 * cap1) from ?_)
      refine g_castRS (ci := 4) (q := 36) B rfl (rc_in B (ci := 4) rfl (k := 0) rfl (Sub.hm (hE_12) fun _ z => PackP.hm z)) dX4_held_33 rfl q1174 ?_
      refine g_astore_n (q := 37) (lv2 := [some (.ref a), some (.ref n0), some (.ref it12), some (.ref pa), none, none]) B dX4_held_36 rfl (Nat.le_of_ble_eq_true rfl) (rv_r _) rfl ?_
      refine g_aload_n (q := 38) B dX4_held_37 rfl rfl (rv_r _) ?_
      refine g_aload_n (q := 39) B dX4_held_38 rfl rfl (rv_r _) ?_
      obtain ⟨hK_13, hc_13_0⟩ := PackP.at (hE_12)
      refine g_getNM (q := 42) B (ci := 4) (k := 0) (j := 1) in_X7 rfl dX4_held_39 rfl rfl (hc_13_0) (Nat.le_of_ble_eq_true rfl) q1990 rfl rfl ?_
      have hcn := capN_b (m := q.2.1 / 64 + 1) hc1 (by omega)
      refine g_callV (q := 45) (is := [5]) (kc2 := (72 - cap1) - (capN cap1 (q.2.1 / 64 + 1) - cap1)) (ks2 := (200 - 2 * cap1) - (2 * (capN cap1 (q.2.1 / 64 + 1) - cap1))) B [.int (nI q.2.1)] (ct_J5_set g J (b := n0) (S := S1) (cap := cap1) (i := q.2.1) (mc := (capN cap1 (q.2.1 / 64 + 1) - cap1)) (ms := (2 * (capN cap1 (q.2.1 / 64 + 1) - cap1))) hl18_5 (by omega) (by omega) ((capN_b hc1 (by omega)).2.2)) dX4_held_42 rfl (rc_in B (ci := 26) rfl (k := 5) rfl (SetP.hm hl18_5)) rfl q1175 q1056 q1057 q84 q1058 rfl rfl moJ5_set rfl rfl (by decide) (by decide) (Nat.le_of_ble_eq_true rfl) (by omega) (by omega) (fun _ _ hx => noX_x hx) (fun v42 L1 hp42 => ?_)
      obtain ⟨u0_42, rfl, rfl, hu0_42⟩ := hp42
      refine (show Go g κ 45 [some (.ref a), some (.ref n0), some (.ref it12), some (.ref pa), none, none] [] [w1, [(a, .inr (2, [.int (nI (pNo r)), .ref ev, .ref pl, .int (oI (pEp r)), .int (nI (pLf r)), .ref nd, .int (nI (pOn r)), .int (nI (pKy r)), .ref ch, .int (oI (pRn r)), .ref x]))], v0, v2, v3, [(it12, .inr (22, [.int (nI (k + 1)), .int (nI k), .int md, .ref pl]))], v1, u0_42] ((72 - cap1) - (capN cap1 (q.2.1 / 64 + 1) - cap1)) ((200 - 2 * cap1) - (2 * (capN cap1 (q.2.1 / 64 + 1) - cap1))) from ?_)
      refine g_aload_n (q := 46) B dX4_held_45 rfl rfl (rv_r _) ?_
      refine g_aload_n (q := 47) B dX4_held_46 rfl rfl (rv_r _) ?_
      refine g_getNM (q := 50) B (ci := 4) (k := 0) (j := 2) in_X7 rfl dX4_held_47 rfl rfl (hc_13_0) (Nat.le_of_ble_eq_true rfl) q1993 rfl rfl ?_
      have hcn2 := capN_b (m := q.2.2.1 / 64 + 1) hcn.2.1 (by omega)
      refine g_callV (q := 53) (is := [7]) (kc2 := ((72 - cap1) - (capN cap1 (q.2.1 / 64 + 1) - cap1)) - (capN (capN cap1 (q.2.1 / 64 + 1)) (q.2.2.1 / 64 + 1) - (capN cap1 (q.2.1 / 64 + 1)))) (ks2 := ((200 - 2 * cap1) - (2 * (capN cap1 (q.2.1 / 64 + 1) - cap1))) - (2 * (capN (capN cap1 (q.2.1 / 64 + 1)) (q.2.2.1 / 64 + 1) - (capN cap1 (q.2.1 / 64 + 1))))) B [.int (nI q.2.2.1)] (ct_J5_set g J (b := n0) (S := sIns S1 q.2.1) (cap := capN cap1 (q.2.1 / 64 + 1)) (i := q.2.2.1) (mc := (capN (capN cap1 (q.2.1 / 64 + 1)) (q.2.2.1 / 64 + 1) - (capN cap1 (q.2.1 / 64 + 1)))) (ms := (2 * (capN (capN cap1 (q.2.1 / 64 + 1)) (q.2.2.1 / 64 + 1) - (capN cap1 (q.2.1 / 64 + 1))))) hu0_42 (by omega) (by omega) ((capN_b hcn.2.1 (by omega)).2.2)) dX4_held_50 rfl (rc_in B (ci := 26) rfl (k := 7) rfl (SetP.hm hu0_42)) rfl q1175 q1056 q1057 q84 q1058 rfl rfl moJ5_set rfl rfl (by decide) (by decide) (Nat.le_of_ble_eq_true rfl) (by omega) (by omega) (fun _ _ hx => noX_x hx) (fun v50 L1 hp50 => ?_)
      obtain ⟨u0_50, rfl, rfl, hu0_50⟩ := hp50
      refine (show Go g κ 53 [some (.ref a), some (.ref n0), some (.ref it12), some (.ref pa), none, none] [] [w1, [(a, .inr (2, [.int (nI (pNo r)), .ref ev, .ref pl, .int (oI (pEp r)), .int (nI (pLf r)), .ref nd, .int (nI (pOn r)), .int (nI (pKy r)), .ref ch, .int (oI (pRn r)), .ref x]))], v0, v2, v3, [(it12, .inr (22, [.int (nI (k + 1)), .int (nI k), .int md, .ref pl]))], v1, u0_50] (((72 - cap1) - (capN cap1 (q.2.1 / 64 + 1) - cap1)) - (capN (capN cap1 (q.2.1 / 64 + 1)) (q.2.2.1 / 64 + 1) - (capN cap1 (q.2.1 / 64 + 1)))) (((200 - 2 * cap1) - (2 * (capN cap1 (q.2.1 / 64 + 1) - cap1))) - (2 * (capN (capN cap1 (q.2.1 / 64 + 1)) (q.2.2.1 / 64 + 1) - (capN cap1 (q.2.1 / 64 + 1))))) from ?_)
      refine g_goto (tgt := 18) B dX4_held_53 (by decide) ?_
      refine g_fg 3 rfl ?_
      refine g_pk [0, 0, 0, 0, 0, 2, 0, 0] rfl rfl ?_
      refine (show Go g κ 18 [some (.ref a), some (.ref n0), some (.ref it12), none, none, none] [] [w1, [(a, .inr (2, [.int (nI (pNo r)), .ref ev, .ref pl, .int (oI (pEp r)), .int (nI (pLf r)), .ref nd, .int (nI (pOn r)), .int (nI (pKy r)), .ref ch, .int (oI (pRn r)), .ref x]))], v0, v2, v3, u0_50, [(it12, .inr (22, [.int (nI (k + 1)), .int (nI k), .int md, .ref pl]))], v1] (((72 - cap1) - (capN cap1 (q.2.1 / 64 + 1) - cap1)) - (capN (capN cap1 (q.2.1 / 64 + 1)) (q.2.2.1 / 64 + 1) - (capN cap1 (q.2.1 / 64 + 1)))) (((200 - 2 * cap1) - (2 * (capN cap1 (q.2.1 / 64 + 1) - cap1))) - (2 * (capN (capN cap1 (q.2.1 / 64 + 1)) (q.2.2.1 / 64 + 1) - (capN cap1 (q.2.1 / 64 + 1))))) from ?_)
      refine g_room (kc2 := 72 - (capN (capN cap1 (q.2.1 / 64 + 1)) (q.2.2.1 / 64 + 1))) (ks2 := 200 - 2 * (capN (capN cap1 (q.2.1 / 64 + 1)) (q.2.2.1 / 64 + 1))) (by omega) (by omega) ?_
      exact ih18 _ (by have := get_lt2 hpp; omega) (k + 1) (nI k) (sIns (sIns S1 q.2.1) q.2.2.1) (capN (capN cap1 (q.2.1 / 64 + 1)) (q.2.2.1 / 64 + 1)) u0_50 hu0_50 (by have := get_lt2 hpp; omega) (fun x => by rw [sIns_iff, sIns_iff, hS1, pkH_s hid hq, or_assoc]) (by omega) rfl
  refine g_room (kc2 := 72 - 1) (ks2 := 200 - 2 * 1) (by omega) (by omega) ?_
  exact lp18 _ 0 (-1) (fun _ => false) 1 u0_4 hu0_4 (Nat.zero_le _) (fun x => ⟨(fun h => by cases h), fun h => absurd h (pkH_0 Ks x)⟩) (by decide) rfl
