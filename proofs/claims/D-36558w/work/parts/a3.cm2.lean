set_option maxRecDepth 100000
set_option maxRecDepth 100000
section
variable {g : Gv} {κ : Kx} {own : String} {cc : ByteArray} {nL : Nat} {ret : Option FieldType} {lvl : Nat} {pc q : Nat} {lv : List (Option Value)} {st : List Value} {L : List va_W} {kc ks : Nat}
theorem g_callFW (B : Fx g κ own cc nL ret lvl) {y : MethodName} {bytes : ByteArray} {maxL lvl1 mc1 ms1 kc2 ks2 n index : Nat} {ret1 : Option FieldType} {is : List Nat} {Lc Lr : List va_W} {st0 : List Value} {post1 : Option Value → List va_W → Prop} {xp1 : String → List va_W → Prop} {hh : List (Nat × Nat × Nat × Nat)} {x : MethodName} {C : String} {T : u_T} {N ci count : Nat} {b : Nat} (As : List Value) (hM : Ct g y (wsW_ y bytes maxL ret1 hh) lvl1 mc1 ms1 (.ref b :: As) Lc post1 xp1) (d : decode cc pc = .ok (.invokeinterface index count, 5)) (hq : pc + 5 = q) (hc : gCL[ci]? = some (C, T, N)) (hr : Rec g κ L b C) (q1 : Cond.methodLink own index x ∈ lw_all) (q3 : Cond.selects C x y ∈ lw_all) (q6 : Cond.instanceMethod y ∈ lw_all) (q4 : Cond.initialized y.cls ∈ lw_all) (q5 : Cond.codeWith y bytes maxL ret1 hh ∈ lw_all) (f1 : Cond.declares x ∈ lw_tbl) (f2 : Cond.interfaceMethod x.cls x.cls x.name x.desc ∈ lw_tbl) (f3 : Cond.publicMethod y ∈ lw_tbl) (f4 : Cond.unhidden C x.name x.desc ∈ lw_tbl) (f5 : Cond.castable C x.cls ∈ lw_tbl) (hxt : xt L is = (Lc, Lr)) (hs : st0 = As.reverse ++ .ref b :: st) (hm : Mo x n) (hn : As.length = n) (hlen : lv.length = nL) (hlv : lvl1 + 1 ≤ lvl) (hmx : maxL ≤ 45) (hst8 : (st.map fun v => v.category).sum ≤ 8) (hk1 : kc2 + mc1 ≤ kc) (hk2 : ks2 + ms1 ≤ ks)
    (kx : ∀ (E : String) (L1 : List va_W), xp1 E L1 → Gx g κ E pc lv st (Lr ++ L1) kc2 ks2) (kn : ∀ (v : Option Value) (L1 : List va_W), post1 v L1 → Go g κ q lv (v.toList ++ st) (Lr ++ L1) kc2 ks2) : Go g κ pc lv st0 L kc ks := by
  obtain ⟨p, l, e, R, s, m, args, below, meth, c, A, mc, ms, Q⟩ := κ
  obtain ⟨⟨hx, hb, hml, hown, hts⟩, ⟨-, hlk⟩, ⟨hst, hE, hA⟩, hR1, hR2, hR3, hR4⟩ := B
  subst hq; subst hs
  intro H locs cells slots ls h1 h2 h3 h4 h5
  have h4 := h4.xt hxt
  exact go_of_run5 hA h1 h2 h3 h4 h5 hk1 hk2 (vx_runFW (As := As) (rest := st) ((hE.1.1 ci _ hc).2) ⟨hx, hb, hml, hown, hts⟩ (hM l H.size hst) (va_cwFW n hts (lw_app (fun w hw => by simp only [List.mem_cons, List.not_mem_nil, or_false] at hw; rcases hw with e | e | e | e <;> (rw [e]; assumption)) (lw_methW q5)) rfl rfl rfl ⟨hE.2.1.1 _ f1 rfl, hE.2.1.2.1 _ _ _ f2 ⟨hm.1, hm.2.1⟩ f1, hE.2.1.1 _ f3 rfl, hE.2.1.1 _ f4 rfl, hE.2.1.1 _ f5 rfl⟩ hm ⟨by show lvl1 + 1 + 1 ≤ R.frames; omega, by show 8 + (maxL + 11) + 64 * (lvl1 + 1) ≤ R.locals; omega⟩) ⟨Pre.blind, hr H locs (h4.to (R := []) (by rw [List.append_nil]; exact (by rw [List.flatten_append]; exact (xt_fl hxt).symm))) h5, pre_of hE hA h4 h5⟩ rfl hn (by rw [h1.1, hlen]) rfl (lv_room hst8) d ⟨by omega, by omega⟩) kn kx
end
/-- closed packages: who is removed drops what is open -/
def opnK (Ks : List PkS) (k : Nat) : Bool := match Ks[k]? with
  | some q => q.2.2.2.2.2
  | none => false
def shtP (q : PkS) : PkS := (q.1, q.2.1, q.2.2.1, q.2.2.2.1, q.2.2.2.2.1, false)
def cloK (Ks : List PkS) (k : Nat) : List PkS := match Ks[k]? with
  | some q => Ks.set k (shtP q)
  | none => Ks
def clsF : List Nat → List PkS → List Nat × List PkS
  | [], K => ([], K)
  | k :: t, K => if opnK K k = true then clsF t (cloK K k) else (k :: (clsF t K).1, (clsF t K).2)
theorem opnK_e {K : List PkS} {k : Nat} {q : PkS} (h : K[k]? = some q) : opnK K k = q.2.2.2.2.2 := by unfold opnK; rw [h]
theorem cloK_e {K : List PkS} {k : Nat} {q : PkS} (h : K[k]? = some q) : cloK K k = K.set k (shtP q) := by unfold cloK; rw [h]
theorem clsF_o {K : List PkS} {k : Nat} {q : PkS} {t : List Nat} (h : K[k]? = some q) (ho : q.2.2.2.2.2 = true) : clsF (k :: t) K = clsF t (K.set k (shtP q)) := by
  rw [clsF, opnK_e h, if_pos ho, cloK_e h]
theorem clsF_n {K : List PkS} {k : Nat} {q : PkS} {t : List Nat} (h : K[k]? = some q) (ho : ¬ q.2.2.2.2.2 = true) : clsF (k :: t) K = (k :: (clsF t K).1, (clsF t K).2) := by
  rw [clsF, opnK_e h, if_neg ho]
theorem clsF_l : ∀ (t : List Nat) (K : List PkS), (clsF t K).2.length = K.length
  | [], _ => rfl
  | k :: t, K => by
    rw [clsF]
    split
    · rw [clsF_l t]; unfold cloK; split
      · rw [List.length_set]
      · rfl
    · exact clsF_l t K
def clsP (r : PeS) (Ks : List PkS) : PeS := (pNo r, pEv r, (clsF (pPk r) Ks).1, pEp r, pLf r, pNd r, pOn r, pKy r, pCh r, pRn r)
theorem Plc.era {P ids plc : List Nat} (h : Plc P ids plc) (i : Nat) : Plc P (ids.eraseIdx i) (plc.eraseIdx i) := by
  unfold Plc at h ⊢
  have e : ∀ {α β : Type} (f : α → β) (l : List α), (l.eraseIdx i).map f = (l.map f).eraseIdx i := fun f l => by
    refine List.ext_getElem? fun j => ?_
    rw [List.getElem?_map, List.getElem?_eraseIdx, List.getElem?_eraseIdx]
    split
    · rw [List.getElem?_map]
    · rw [List.getElem?_map]
  rw [e, h, e]
theorem era_mid (A : List Nat) (k : Nat) (t : List Nat) : (A ++ k :: t).eraseIdx A.length = A ++ t := by
  rw [List.eraseIdx_append_of_length_le (Nat.le_refl _), Nat.sub_self]; rfl
theorem ct_X1_closes (g : Gv) (J : Jd g) {x : Nat} {lk : Nat} {b : Nat} {lp : Nat} {lr : Nat} {lt : Nat} {ls : Nat} {lm : Nat} {so : Nat} {bxs : Nat} {ps : List Nat} {Ps : List PeS} {pcap : Nat} {pks : List Nat} {pmd : Int32} {Ks : List PkS} {kcap : Nat} {i : Nat} {r : PeS} {w1 : va_W} {w2 : va_W} (hw1 : PersL g lp ps Ps pcap x pks pmd w1) (hw2 : LoP g (PackP g) lk pks Ks kcap w2) (hr : Ps[i]? = some r) (hpn : Ps.length < 100) (hkb : ∀ k ∈ pPk r, k < Ks.length) : Ct g yX1_closes (ws_ yX1_closes cX1_closes 5 none) 7 1 4 [.ref x, .int (nI i)] [[(x, .inr (0, [.ref b, .ref lp, .ref lk, .ref lr, .ref lt, .ref ls, .ref lm, .ref so, .int (nI bxs)]))], w1, w2] (fun (rv_ : Option Value) (rL_ : List va_W) => ∃ (u1 : va_W) (u2 : va_W), rv_ = none ∧ rL_ = [[(x, .inr (0, [.ref b, .ref lp, .ref lk, .ref lr, .ref lt, .ref ls, .ref lm, .ref so, .int (nI bxs)]))], u1, u2] ∧ PersL g lp ps (Ps.set i (clsP r Ks)) pcap x pks pmd u1 ∧ LoP g (PackP g) lk pks ((clsF (pPk r) Ks).2) kcap u2) noX := by
  refine Ct.of "Keygrove" [some (.ref x), some (.int (nI i)), none, none, none] rfl (by decide) rfl (Nat.le_of_ble_eq_true rfl) rfl ?_
  intro κ B E tb
  obtain ⟨a, ha⟩ := get_ex (xs := ps) (i := i) (by have := get_lt2 hr; have := (PersL.lo hw1).len.1; omega)
  have hi10 := get_lt2 ha
  refine g_aload_n (q := 1) B dX1_closes_0 rfl rfl (rv_r _) ?_
  refine g_get (q := 4) B (ci := 0) (k := 0) (j := 1) in_X1 rfl dX1_closes_1 rfl rfl (Nat.le_of_ble_eq_true rfl) q278 rfl rfl ?_
  refine g_iload_n (q := 5) B dX1_closes_4 rfl rfl ?_
  obtain ⟨hli_1, hln_1, hel_1⟩ := PersL.at (Sub.self hw1)
  have hE_2 := hel_1 _ _ _ ha (show Ps[i]? = some r from hr)
  refine g_callF (q := 10) (is := [1]) (kc2 := 1) (ks2 := 4) B [.int (nI i)] (ct_J2_get_s g J (p := lp) (xs := ps) (md := pmd) (cap := pcap) (i := i) (x := a) (W0 := w1)  (hli_1) (ha)) dX1_closes_5 rfl (ci := 21) rfl (rc_in B (ci := 21) rfl (k := 1) rfl (PersL.hm hw1)) q1138 q1093 q1095 q81 q1097 q1092 q1091 q1096 q1094 q318 rfl rfl mojava_util_List_get__I_Ljava_lang_Object_ rfl rfl (by decide) (by decide) (Nat.le_of_ble_eq_true rfl) (Nat.le_of_ble_eq_true rfl) (Nat.le_of_ble_eq_true rfl) (fun _ _ hx => noX_x hx) (fun v5 L1 hp5 => ?_)
  obtain ⟨rfl, rfl⟩ := hp5
  refine (show Go g κ 10 [some (.ref x), some (.int (nI i)), none, none, none] [.ref a] [[(x, .inr (0, [.ref b, .ref lp, .ref lk, .ref lr, .ref lt, .ref ls, .ref lm, .ref so, .int (nI bxs)]))], w2, w1] 1 4 from ?_)
  refine g_castRS (ci := 2) (q := 13) B rfl (rc_in B (ci := 2) rfl (k := 2) rfl (Sub.hm (hE_2) fun _ z => PersP.hm z)) dX1_closes_10 rfl q1161 ?_
  refine g_astore_n (q := 14) (lv2 := [some (.ref x), some (.int (nI i)), some (.ref a), none, none]) B dX1_closes_13 rfl (Nat.le_of_ble_eq_true rfl) (rv_r _) rfl ?_
  obtain ⟨pu1_p, pwi_p, pu2_p, hpwi_p, hpcl_p, hpe_p⟩ := PersL.opn hw1 ha hr
  refine g_open 2 rfl hpe_p rfl ?_
  refine (show Go g κ 14 [some (.ref x), some (.int (nI i)), some (.ref a), none, none] [] [[(x, .inr (0, [.ref b, .ref lp, .ref lk, .ref lr, .ref lt, .ref ls, .ref lm, .ref so, .int (nI bxs)]))], w2, pu1_p, pwi_p, pu2_p] 1 4 from ?_)
  obtain ⟨ev_p, pl_p, nd_p, ch_p, ecap_p, pcap_p, nn_p, nc_p, plc_p, md_p, v0_p, v1_p, v2_p, v3_p, hP_p, hpl_p, hec_p, hpc_p, hv0_p, hv1_p, hv2_p, hv3_p, rfl⟩ := hpwi_p
  refine g_open 3 rfl rfl rfl ?_
  refine (show Go g κ 14 [some (.ref x), some (.int (nI i)), some (.ref a), none, none] [] [[(x, .inr (0, [.ref b, .ref lp, .ref lk, .ref lr, .ref lt, .ref ls, .ref lm, .ref so, .int (nI bxs)]))], w2, pu1_p, pu2_p, [(a, .inr (2, [.int (nI (pNo r)), .ref ev_p, .ref pl_p, .int (oI (pEp r)), .int (nI (pLf r)), .ref nd_p, .int (nI (pOn r)), .int (nI (pKy r)), .ref ch_p, .int (oI (pRn r)), .ref x]))], v0_p, v1_p, v2_p, v3_p] 1 4 from ?_)
  refine g_aload_n (q := 15) B dX1_closes_14 rfl rfl (rv_r _) ?_
  refine g_getN (q := 18) B (ci := 2) (k := 4) (j := 2) in_X4 rfl dX1_closes_15 rfl rfl (Nat.le_of_ble_eq_true rfl) q1899 rfl rfl ?_
  refine g_callF (q := 23) (is := [6]) (kc2 := 0) (ks2 := 0) B [] (ct_J2_iterator g J (p := pl_p) (xs := plc_p) (md := md_p) (cap := pcap_p) hv1_p ) dX1_closes_18 rfl (ci := 21) rfl (rc_in B (ci := 21) rfl (k := 6) rfl (ListP.hm hv1_p)) q1153 q1156 q805 q81 q807 q1155 q1154 q806 q804 q318 rfl rfl mojava_util_List_iterator___Ljava_util_Iterator_ rfl rfl (by decide) (by decide) (Nat.le_of_ble_eq_true rfl) (Nat.le_of_ble_eq_true rfl) (Nat.le_of_ble_eq_true rfl) (fun _ _ hx => noX_x hx) (fun v18 L1 hp18 => ?_)
  obtain ⟨it18, rfl, rfl⟩ := hp18
  refine (show Go g κ 23 [some (.ref x), some (.int (nI i)), some (.ref a), none, none] [.ref it18] [[(x, .inr (0, [.ref b, .ref lp, .ref lk, .ref lr, .ref lt, .ref ls, .ref lm, .ref so, .int (nI bxs)]))], w2, pu1_p, pu2_p, [(a, .inr (2, [.int (nI (pNo r)), .ref ev_p, .ref pl_p, .int (oI (pEp r)), .int (nI (pLf r)), .ref nd_p, .int (nI (pOn r)), .int (nI (pKy r)), .ref ch_p, .int (oI (pRn r)), .ref x]))], v0_p, v2_p, v3_p, [(it18, .inr (22, [.int (nI 0), .int (-1), .int md_p, .ref pl_p]))], v1_p] 0 0 from ?_)
  refine g_astore_n (q := 24) (lv2 := [some (.ref x), some (.int (nI i)), some (.ref a), some (.ref it18), none]) B dX1_closes_23 rfl (Nat.le_of_ble_eq_true rfl) (rv_r _) rfl ?_
  have lp24 : ∀ (n24 : Nat) (A : List Nat) (t : List Nat) (K : List PkS) (pl1 : List Nat) (md1 : Int32) (c : Nat) (lrx : Int32) (l24_1 : va_W) (l24_9 : va_W), LoP g (PackP g) lk pks K kcap l24_1 → ListP g pl_p pl1 md1 pcap_p l24_9 → (clsF (pPk r) Ks = (A ++ (clsF t K).1, (clsF t K).2)) → (Plc pks (A ++ t) pl1) → (c = A.length) → (K.length = Ks.length) → (∀ k ∈ A ++ t, k < Ks.length) → t.length = n24 → Go g κ 24 [some (.ref x), some (.int (nI i)), some (.ref a), some (.ref it18), none] [] [[(x, .inr (0, [.ref b, .ref lp, .ref lk, .ref lr, .ref lt, .ref ls, .ref lm, .ref so, .int (nI bxs)]))], l24_1, pu1_p, pu2_p, [(a, .inr (2, [.int (nI (pNo r)), .ref ev_p, .ref pl_p, .int (oI (pEp r)), .int (nI (pLf r)), .ref nd_p, .int (nI (pOn r)), .int (nI (pKy r)), .ref ch_p, .int (oI (pRn r)), .ref x]))], v0_p, v2_p, v3_p, [(it18, .inr (22, [.int (nI c), .int lrx, .int md1, .ref pl_p]))], l24_9] 0 0 := by
    intro n24
    induction n24 using Nat.strongRecOn with
    | _ n24 ih24 =>
    intro A t K pl1 md1 c lrx l24_1 l24_9 hl24_1 hl24_9 hcl hpl1 hc hKl htb hmu24
    refine g_aload_n (q := 25) B dX1_closes_24 rfl rfl (rv_r _) ?_
    refine g_callF (q := 30) (is := [8, 8]) (kc2 := 0) (ks2 := 0) B [] (ct_J19_hasNext g J (p := pl_p) (xs := pl1) (md := md1) (cap := pcap_p) (it := it18) (c := c) (lr := lrx) hl24_9 (by have z := (Plc.at hpl1).1; rw [List.length_append] at z; omega)) dX1_closes_25 rfl (ci := 22) rfl (rc_at B (ci := 22) rfl (k := 8) rfl) q1158 q940 q942 q104 q944 q938 q937 q943 q941 q939 rfl rfl mojava_util_Iterator_hasNext___Z rfl rfl (by decide) (by decide) (Nat.le_of_ble_eq_true rfl) (Nat.le_of_ble_eq_true rfl) (Nat.le_of_ble_eq_true rfl) (fun _ _ hx => noX_x hx) (fun v25 L1 hp25 => ?_)
    obtain ⟨rfl, rfl⟩ := hp25
    refine (show Go g κ 30 [some (.ref x), some (.int (nI i)), some (.ref a), some (.ref it18), none] [.int (nI (if ¬ c = pl1.length then 1 else 0))] [[(x, .inr (0, [.ref b, .ref lp, .ref lk, .ref lr, .ref lt, .ref ls, .ref lm, .ref so, .int (nI bxs)]))], l24_1, pu1_p, pu2_p, [(a, .inr (2, [.int (nI (pNo r)), .ref ev_p, .ref pl_p, .int (oI (pEp r)), .int (nI (pLf r)), .ref nd_p, .int (nI (pOn r)), .int (nI (pKy r)), .ref ch_p, .int (oI (pRn r)), .ref x]))], v0_p, v2_p, v3_p, [(it18, .inr (22, [.int (nI c), .int lrx, .int md1, .ref pl_p]))], l24_9] 0 0 from ?_)
    refine g_if_eq (tgt := 67) (q := 33) B dX1_closes_30 rfl (by decide) (bo_eq) (fun c30 => ?_) (fun c30 => ?_)
    · skip
      have ht0 : t = [] := by
        cases t with
        | nil => rfl
        | cons u v => exact absurd (by have z := (Plc.at hpl1).1; rw [List.length_append, List.length_cons] at z; omega) c30
      subst ht0
      have he1 : (clsF (pPk r) Ks).1 = A := by rw [hcl]; exact List.append_nil A
      have he2 : (clsF (pPk r) Ks).2 = K := by rw [hcl]; rfl
      have hr_3 : LoP g (PackP g) lk pks ((clsF (pPk r) Ks).2) kcap l24_1 := by rw [he2]; exact hl24_1
      obtain ⟨wc_4, ewc_4⟩ : ∃ w : va_W, w = ([[(a, .inr (2, [.int (nI (pNo r)), .ref ev_p, .ref pl_p, .int (oI (pEp r)), .int (nI (pLf r)), .ref nd_p, .int (nI (pOn r)), .int (nI (pKy r)), .ref ch_p, .int (oI (pRn r)), .ref x]))], v0_p, l24_9, v2_p, v3_p] : List va_W).flatten := ⟨_, rfl⟩
      have hwc_4 : PersP g a x pks (clsP r Ks) wc_4 := by
        rw [ewc_4]
        exact ⟨ev_p, pl_p, nd_p, ch_p, ecap_p, pcap_p, nn_p, nc_p, pl1, md1, _, _, _, _, hP_p, (by show Plc pks (clsF (pPk r) Ks).1 _; rw [he1]; have z := hpl1; rw [List.append_nil] at z; exact z), hec_p, hpc_p, hv0_p, hl24_9, hv2_p, hv3_p, rfl⟩
      refine g_close (w := wc_4) [4, 4, 7, 4, 4] rfl ewc_4 rfl ?_
      refine (show Go g κ 67 [some (.ref x), some (.int (nI i)), some (.ref a), some (.ref it18), none] [] [[(x, .inr (0, [.ref b, .ref lp, .ref lk, .ref lr, .ref lt, .ref ls, .ref lm, .ref so, .int (nI bxs)]))], l24_1, pu1_p, pu2_p, [(it18, .inr (22, [.int (nI c), .int lrx, .int md1, .ref pl_p]))], wc_4] 0 0 from ?_)
      obtain ⟨wc_5, ewc_5⟩ : ∃ w : va_W, w = ([pu1_p, wc_4, pu2_p] : List va_W).flatten := ⟨_, rfl⟩
      have hwc_5 : PersL g lp ps (Ps.set i (clsP r Ks)) pcap x pks pmd wc_5 := by
        rw [ewc_5]
        exact hpcl_p _ _ hwc_4
      refine g_close (w := wc_5) [2, 4, 2] rfl ewc_5 rfl ?_
      refine (show Go g κ 67 [some (.ref x), some (.int (nI i)), some (.ref a), some (.ref it18), none] [] [[(x, .inr (0, [.ref b, .ref lp, .ref lk, .ref lr, .ref lt, .ref ls, .ref lm, .ref so, .int (nI bxs)]))], l24_1, [(it18, .inr (22, [.int (nI c), .int lrx, .int md1, .ref pl_p]))], wc_5] 0 0 from ?_)
      refine g_pk [0, 2, 0] rfl rfl ?_
      refine (show Go g κ 67 [some (.ref x), some (.int (nI i)), some (.ref a), some (.ref it18), none] [] [[(x, .inr (0, [.ref b, .ref lp, .ref lk, .ref lr, .ref lt, .ref ls, .ref lm, .ref so, .int (nI bxs)]))], wc_5, l24_1] 0 0 from ?_)
      exact g_vret B E dX1_closes_67 (⟨wc_5, l24_1, rfl, rfl, hwc_5, hr_3⟩)
    · skip
      have c30 := Classical.not_not.mp c30
      obtain ⟨kk, t2, rfl⟩ : ∃ kk t2, t = kk :: t2 := by
        cases t with
        | nil => exact absurd (by have z := (Plc.at hpl1).1; rw [List.append_nil] at z; omega) c30
        | cons u v => exact ⟨u, v, rfl⟩
      obtain ⟨pa, hpp, hpk⟩ := (Plc.at hpl1).2 c kk (by rw [hc]; simp)
      obtain ⟨q, hq⟩ := get_ex (xs := K) (i := kk) (by have := htb kk (by simp); omega)
      obtain ⟨md_6, hli_6, hln_6, hel_6⟩ := LoP.at (Sub.self hl24_1)
      have hE_7 := hel_6 _ _ _ hpk hq
      refine g_aload_n (q := 34) B dX1_closes_33 rfl rfl (rv_r _) ?_
      refine g_callF (q := 39) (is := [8, 8]) (kc2 := 0) (ks2 := 0) B [] (ct_J19_next g J (p := pl_p) (xs := pl1) (md := md1) (cap := pcap_p) (it := it18) (c := c) (lr := lrx) (x := pa) hl24_9 (hpp)) dX1_closes_34 rfl (ci := 22) rfl (rc_at B (ci := 22) rfl (k := 8) rfl) q1160 q967 q969 q104 q971 q966 q965 q970 q968 q939 rfl rfl mojava_util_Iterator_next___Ljava_lang_Object_ rfl rfl (by decide) (by decide) (Nat.le_of_ble_eq_true rfl) (Nat.le_of_ble_eq_true rfl) (Nat.le_of_ble_eq_true rfl) (fun _ _ hx => noX_x hx) (fun v34 L1 hp34 => ?_)
      obtain ⟨rfl, rfl⟩ := hp34
      refine (show Go g κ 39 [some (.ref x), some (.int (nI i)), some (.ref a), some (.ref it18), none] [.ref pa] [[(x, .inr (0, [.ref b, .ref lp, .ref lk, .ref lr, .ref lt, .ref ls, .ref lm, .ref so, .int (nI bxs)]))], l24_1, pu1_p, pu2_p, [(a, .inr (2, [.int (nI (pNo r)), .ref ev_p, .ref pl_p, .int (oI (pEp r)), .int (nI (pLf r)), .ref nd_p, .int (nI (pOn r)), .int (nI (pKy r)), .ref ch_p, .int (oI (pRn r)), .ref x]))], v0_p, v2_p, v3_p, [(it18, .inr (22, [.int (nI (c + 1)), .int (nI c), .int md1, .ref pl_p]))], l24_9] 0 0 from ?_)
      refine g_castRS (ci := 4) (q := 42) B rfl (rc_in B (ci := 4) rfl (k := 1) rfl (Sub.hm (hE_7) fun _ z => PackP.hm z)) dX1_closes_39 rfl q1981 ?_
      refine g_astore (q := 44) (lv2 := [some (.ref x), some (.int (nI i)), some (.ref a), some (.ref it18), some (.ref pa)]) B dX1_closes_42 rfl (Nat.le_of_ble_eq_true rfl) (rv_r _) rfl ?_
      refine g_aload (q := 46) B dX1_closes_44 rfl rfl (rv_r _) ?_
      obtain ⟨hK_8, hc_8_0⟩ := PackP.at (hE_7)
      refine g_getNM (q := 49) B (ci := 4) (k := 1) (j := 5) in_X7 rfl dX1_closes_46 rfl rfl (hc_8_0) (Nat.le_of_ble_eq_true rfl) q1998 rfl rfl ?_
      refine g_if_eq (tgt := 64) (q := 52) B dX1_closes_49 rfl (by decide) (bo_eq) (fun c49 => ?_) (fun c49 => ?_)
      · skip
        refine g_goto (tgt := 24) B dX1_closes_64 (by decide) ?_
        refine g_fg 4 rfl ?_
        exact ih24 _ (by rw [← hmu24]; exact Nat.lt_succ_self _) (A ++ [kk]) t2 K pl1 md1 (c + 1) (nI c) l24_1 l24_9 hl24_1 hl24_9 (by rw [hcl, clsF_n hq c49]; simp) (by rw [List.append_assoc]; exact hpl1) (by rw [List.length_append, hc]; rfl) (hKl) (fun k hk => htb k (by rw [List.append_assoc] at hk; exact hk)) rfl
      · skip
        have c49 := Classical.not_not.mp c49
        obtain ⟨lu1_o, lwi_o, lu2_o, hlwi_o, hlcl_o, hle_o⟩ := LoP.opn hl24_1 hpk hq
        refine g_open 1 rfl hle_o rfl ?_
        refine (show Go g κ 52 [some (.ref x), some (.int (nI i)), some (.ref a), some (.ref it18), some (.ref pa)] [] [[(x, .inr (0, [.ref b, .ref lp, .ref lk, .ref lr, .ref lt, .ref ls, .ref lm, .ref so, .int (nI bxs)]))], pu1_p, pu2_p, [(a, .inr (2, [.int (nI (pNo r)), .ref ev_p, .ref pl_p, .int (oI (pEp r)), .int (nI (pLf r)), .ref nd_p, .int (nI (pOn r)), .int (nI (pKy r)), .ref ch_p, .int (oI (pRn r)), .ref x]))], v0_p, v2_p, v3_p, [(it18, .inr (22, [.int (nI (c + 1)), .int (nI c), .int md1, .ref pl_p]))], l24_9, lu1_o, lwi_o, lu2_o] 0 0 from ?_)
        obtain ⟨hK_o, rfl⟩ := hlwi_o
        refine g_open 10 rfl rfl rfl ?_
        refine (show Go g κ 52 [some (.ref x), some (.int (nI i)), some (.ref a), some (.ref it18), some (.ref pa)] [] [[(x, .inr (0, [.ref b, .ref lp, .ref lk, .ref lr, .ref lt, .ref ls, .ref lm, .ref so, .int (nI bxs)]))], pu1_p, pu2_p, [(a, .inr (2, [.int (nI (pNo r)), .ref ev_p, .ref pl_p, .int (oI (pEp r)), .int (nI (pLf r)), .ref nd_p, .int (nI (pOn r)), .int (nI (pKy r)), .ref ch_p, .int (oI (pRn r)), .ref x]))], v0_p, v2_p, v3_p, [(it18, .inr (22, [.int (nI (c + 1)), .int (nI c), .int md1, .ref pl_p]))], l24_9, lu1_o, lu2_o, [(pa, .inr (4, [.int (nI q.1), .int (nI q.2.1), .int (nI q.2.2.1), .int (nI (if q.2.2.2.1 = true then 1 else 0)), .int (oI q.2.2.2.2.1), .int (nI (if q.2.2.2.2.2 = true then 1 else 0))]))]] 0 0 from ?_)
        refine g_aload (q := 54) B dX1_closes_52 rfl rfl (rv_r _) ?_
        refine g_iconst (v := nI 0) (q := 55) B dX1_closes_54 rfl (by decide) ?_
        refine g_putN (q := 58) (L2 := [[(x, .inr (0, [.ref b, .ref lp, .ref lk, .ref lr, .ref lt, .ref ls, .ref lm, .ref so, .int (nI bxs)]))], pu1_p, pu2_p, [(a, .inr (2, [.int (nI (pNo r)), .ref ev_p, .ref pl_p, .int (oI (pEp r)), .int (nI (pLf r)), .ref nd_p, .int (nI (pOn r)), .int (nI (pKy r)), .ref ch_p, .int (oI (pRn r)), .ref x]))], v0_p, v2_p, v3_p, [(it18, .inr (22, [.int (nI (c + 1)), .int (nI c), .int md1, .ref pl_p]))], l24_9, lu1_o, lu2_o, [(pa, .inr (4, [.int (nI q.1), .int (nI q.2.1), .int (nI q.2.2.1), .int (nI (if q.2.2.2.1 = true then 1 else 0)), .int (oI q.2.2.2.2.1), .int (nI 0)]))]]) B (ci := 4) (k := 11) (j := 5) in_X7 tyX7 tyX7_ok nmX7 rfl dX1_closes_55 rfl rfl (Nat.le_of_ble_eq_true rfl) q1998 rfl rfl rfl rfl (Nat.le_of_ble_eq_true rfl) rfl ?_
        obtain ⟨wc_9, ewc_9⟩ : ∃ w : va_W, w = ([[(pa, .inr (4, [.int (nI q.1), .int (nI q.2.1), .int (nI q.2.2.1), .int (nI (if q.2.2.2.1 = true then 1 else 0)), .int (oI q.2.2.2.2.1), .int (nI 0)]))]] : List va_W).flatten := ⟨_, rfl⟩
        have hwc_9 : PackP g pa (shtP q) wc_9 := by
          rw [ewc_9]
          exact ⟨hK_o, rfl⟩
        refine g_close (w := wc_9) [11] rfl ewc_9 rfl ?_
        refine (show Go g κ 58 [some (.ref x), some (.int (nI i)), some (.ref a), some (.ref it18), some (.ref pa)] [] [[(x, .inr (0, [.ref b, .ref lp, .ref lk, .ref lr, .ref lt, .ref ls, .ref lm, .ref so, .int (nI bxs)]))], pu1_p, pu2_p, [(a, .inr (2, [.int (nI (pNo r)), .ref ev_p, .ref pl_p, .int (oI (pEp r)), .int (nI (pLf r)), .ref nd_p, .int (nI (pOn r)), .int (nI (pKy r)), .ref ch_p, .int (oI (pRn r)), .ref x]))], v0_p, v2_p, v3_p, [(it18, .inr (22, [.int (nI (c + 1)), .int (nI c), .int md1, .ref pl_p]))], l24_9, lu1_o, lu2_o, wc_9] 0 0 from ?_)
        obtain ⟨wc_10, ewc_10⟩ : ∃ w : va_W, w = ([lu1_o, wc_9, lu2_o] : List va_W).flatten := ⟨_, rfl⟩
        have hwc_10 : LoP g (PackP g) lk pks (K.set kk (shtP q)) kcap wc_10 := by
          rw [ewc_10]
          exact hlcl_o _ _ hwc_9
        refine g_close (w := wc_10) [9, 10, 9] rfl ewc_10 rfl ?_
        refine (show Go g κ 58 [some (.ref x), some (.int (nI i)), some (.ref a), some (.ref it18), some (.ref pa)] [] [[(x, .inr (0, [.ref b, .ref lp, .ref lk, .ref lr, .ref lt, .ref ls, .ref lm, .ref so, .int (nI bxs)]))], pu1_p, pu2_p, [(a, .inr (2, [.int (nI (pNo r)), .ref ev_p, .ref pl_p, .int (oI (pEp r)), .int (nI (pLf r)), .ref nd_p, .int (nI (pOn r)), .int (nI (pKy r)), .ref ch_p, .int (oI (pRn r)), .ref x]))], v0_p, v2_p, v3_p, [(it18, .inr (22, [.int (nI (c + 1)), .int (nI c), .int md1, .ref pl_p]))], l24_9, wc_10] 0 0 from ?_)
        have hve := PackL.vd hwc_10
        refine g_aload_n (q := 59) B dX1_closes_58 rfl rfl (rv_r _) ?_
        refine g_callFW (q := 64) (is := [7, 7, 7]) (kc2 := 0) (ks2 := 0) B [] (ct_J19_remove g J (p := pl_p) (xs := pl1) (md := md1) (cap := pcap_p) (it := it18) (k := c) (c := c + 1) (x := pa) (we := wc_10) hl24_9 (hpp) (fun y hy => hve y (Plc.sub hpl1 hy))) dX1_closes_59 rfl (ci := 22) rfl (rc_at B (ci := 22) rfl (k := 7) rfl) q2534 q2245 q2247 q104 q2249 q2244 q2243 q2248 q2246 q939 rfl rfl mojava_util_Iterator_remove___V rfl rfl (by decide) (by decide) (Nat.le_of_ble_eq_true rfl) (Nat.le_of_ble_eq_true rfl) (Nat.le_of_ble_eq_true rfl) (fun _ _ hx => noX_x hx) (fun v59 L1 hp59 => ?_)
        obtain ⟨md259, u1_59, rfl, rfl, hu1_59⟩ := hp59
        refine (show Go g κ 64 [some (.ref x), some (.int (nI i)), some (.ref a), some (.ref it18), some (.ref pa)] [] [[(x, .inr (0, [.ref b, .ref lp, .ref lk, .ref lr, .ref lt, .ref ls, .ref lm, .ref so, .int (nI bxs)]))], pu1_p, pu2_p, [(a, .inr (2, [.int (nI (pNo r)), .ref ev_p, .ref pl_p, .int (oI (pEp r)), .int (nI (pLf r)), .ref nd_p, .int (nI (pOn r)), .int (nI (pKy r)), .ref ch_p, .int (oI (pRn r)), .ref x]))], v0_p, v2_p, v3_p, [(it18, .inr (22, [.int (nI c), .int (-1), .int md259, .ref pl_p]))], u1_59, wc_10] 0 0 from ?_)
        refine g_goto (tgt := 24) B dX1_closes_64 (by decide) ?_
        refine g_fg 4 rfl ?_
        refine g_pk [0, 8, 0, 0, 0, 0, 0, 0, 0, 0] rfl rfl ?_
        refine (show Go g κ 24 [some (.ref x), some (.int (nI i)), some (.ref a), some (.ref it18), none] [] [[(x, .inr (0, [.ref b, .ref lp, .ref lk, .ref lr, .ref lt, .ref ls, .ref lm, .ref so, .int (nI bxs)]))], wc_10, pu1_p, pu2_p, [(a, .inr (2, [.int (nI (pNo r)), .ref ev_p, .ref pl_p, .int (oI (pEp r)), .int (nI (pLf r)), .ref nd_p, .int (nI (pOn r)), .int (nI (pKy r)), .ref ch_p, .int (oI (pRn r)), .ref x]))], v0_p, v2_p, v3_p, [(it18, .inr (22, [.int (nI c), .int (-1), .int md259, .ref pl_p]))], u1_59] 0 0 from ?_)
        exact ih24 _ (by rw [← hmu24]; exact Nat.lt_succ_self _) A t2 (K.set kk (shtP q)) (pl1.eraseIdx c) md259 c (-1) wc_10 u1_59 hwc_10 hu1_59 (by rw [hcl, clsF_o hq c49]) (by have z := hpl1.era c; rw [hc, era_mid] at z; rw [hc]; exact z) (hc) (by rw [List.length_set]; exact hKl) (fun k hk => htb k (by simp at hk ⊢; rcases hk with h | h; exact Or.inl h; exact Or.inr (Or.inr h))) rfl
  exact lp24 _ ([]) (pPk r) Ks plc_p md_p 0 (-1) w2 v1_p hw2 hv1_p (rfl) (hpl_p) (rfl) (rfl) (hkb) rfl
def opI (Ks : List PkS) (ids : List Nat) : Option Nat := ids.find? (opnK Ks)
theorem ct_X1_openOf (g : Gv) (J : Jd g) {x : Nat} {lk : Nat} {b : Nat} {lp : Nat} {lr : Nat} {lt : Nat} {ls : Nat} {lm : Nat} {so : Nat} {bxs : Nat} {a : Nat} {pks : List Nat} {r : PeS} {Ks : List PkS} {kcap : Nat} {w1 : va_W} {w2 : va_W} (hw1 : PersP g a x pks r w1) (hw2 : LoP g (PackP g) lk pks Ks kcap w2) (hkb : ∀ i ∈ pPk r, i < Ks.length) : Ct g yX1_openOf (ws_ yX1_openOf cX1_openOf 4 (some (.object "Keygrove$Pack"))) 3 1 4 [.ref x, .ref a] [[(x, .inr (0, [.ref b, .ref lp, .ref lk, .ref lr, .ref lt, .ref ls, .ref lm, .ref so, .int (nI bxs)]))], w1, w2] (fun (rv_ : Option Value) (rL_ : List va_W) => ∃ (o : Option Nat), rv_ = some (va_rf o) ∧ rL_ = [[(x, .inr (0, [.ref b, .ref lp, .ref lk, .ref lr, .ref lt, .ref ls, .ref lm, .ref so, .int (nI bxs)]))], w1, w2] ∧ (o = none → opI Ks (pPk r) = none) ∧ (∀ p, o = some p → ∃ k, opI Ks (pPk r) = some k ∧ pks[k]? = some p)) noX := by
  refine Ct.of "Keygrove" [some (.ref x), some (.ref a), none, none] rfl (by decide) rfl (Nat.le_of_ble_eq_true rfl) rfl ?_
  intro κ B E tb
  obtain ⟨ev_1, pl_1, nd_1, ch_1, ecap_1, pcap_1, nn_1, nc_1, plc_1, md_1, hP_1, hpl_1, hec_1, hpc_1, hc_1_0, hs_1_0, hs_1_1, hs_1_2, hs_1_3⟩ := PersP.at (Sub.self hw1)
  have hpa := Plc.at hpl_1
  refine g_aload_n (q := 1) B dX1_openOf_0 rfl rfl (rv_r _) ?_
  refine g_getNM (q := 4) B (ci := 2) (k := 1) (j := 2) in_X4 rfl dX1_openOf_1 rfl rfl (hc_1_0) (Nat.le_of_ble_eq_true rfl) q1899 rfl rfl ?_
  refine g_callF (q := 9) (is := [1]) (kc2 := 0) (ks2 := 0) B [] (ct_J2_iterator_s g J (p := pl_1) (xs := plc_1) (md := md_1) (cap := pcap_1) (W0 := w1)  (hs_1_1)) dX1_openOf_4 rfl (ci := 21) rfl (rc_in B (ci := 21) rfl (k := 1) rfl (Sub.hm (hs_1_1) fun _ z => ListP.hm z)) q1153 q1156 q805 q81 q807 q1155 q1154 q806 q804 q318 rfl rfl mojava_util_List_iterator___Ljava_util_Iterator_ rfl rfl (by decide) (by decide) (Nat.le_of_ble_eq_true rfl) (Nat.le_of_ble_eq_true rfl) (Nat.le_of_ble_eq_true rfl) (fun _ _ hx => noX_x hx) (fun v4 L1 hp4 => ?_)
  obtain ⟨it4, rfl, rfl⟩ := hp4
  refine (show Go g κ 9 [some (.ref x), some (.ref a), none, none] [.ref it4] [[(x, .inr (0, [.ref b, .ref lp, .ref lk, .ref lr, .ref lt, .ref ls, .ref lm, .ref so, .int (nI bxs)]))], w2, [(it4, .inr (22, [.int (nI 0), .int (-1), .int md_1, .ref pl_1]))], w1] 0 0 from ?_)
  refine g_astore_n (q := 10) (lv2 := [some (.ref x), some (.ref a), some (.ref it4), none]) B dX1_openOf_9 rfl (Nat.le_of_ble_eq_true rfl) (rv_r _) rfl ?_
  have lp10 : ∀ (n10 : Nat) (k : Nat) (lrx : Int32) , (k ≤ plc_1.length) → (((pPk r).take k).find? (opnK Ks) = none) → plc_1.length - k = n10 → Go g κ 10 [some (.ref x), some (.ref a), some (.ref it4), none] [] [[(x, .inr (0, [.ref b, .ref lp, .ref lk, .ref lr, .ref lt, .ref ls, .ref lm, .ref so, .int (nI bxs)]))], w2, [(it4, .inr (22, [.int (nI k), .int lrx, .int md_1, .ref pl_1]))], w1] 0 0 := by
    intro n10
    induction n10 using Nat.strongRecOn with
    | _ n10 ih10 =>
    intro k lrx  hk hno hmu10
    refine g_aload_n (q := 11) B dX1_openOf_10 rfl rfl (rv_r _) ?_
    refine g_callF (q := 16) (is := [2, 2]) (kc2 := 0) (ks2 := 0) B [] (ct_J19_hasNext_s g J (p := pl_1) (xs := plc_1) (md := md_1) (cap := pcap_1) (it := it4) (c := k) (lr := lrx) (W1 := w1)  (hs_1_1) (by first | assumption | omega | rfl)) dX1_openOf_11 rfl (ci := 22) rfl (rc_at B (ci := 22) rfl (k := 2) rfl) q1158 q940 q942 q104 q944 q938 q937 q943 q941 q939 rfl rfl mojava_util_Iterator_hasNext___Z rfl rfl (by decide) (by decide) (Nat.le_of_ble_eq_true rfl) (Nat.le_of_ble_eq_true rfl) (Nat.le_of_ble_eq_true rfl) (fun _ _ hx => noX_x hx) (fun v11 L1 hp11 => ?_)
    obtain ⟨rfl, rfl⟩ := hp11
    refine (show Go g κ 16 [some (.ref x), some (.ref a), some (.ref it4), none] [.int (nI (if ¬ k = plc_1.length then 1 else 0))] [[(x, .inr (0, [.ref b, .ref lp, .ref lk, .ref lr, .ref lt, .ref ls, .ref lm, .ref so, .int (nI bxs)]))], w2, [(it4, .inr (22, [.int (nI k), .int lrx, .int md_1, .ref pl_1]))], w1] 0 0 from ?_)
    refine g_if_eq (tgt := 41) (q := 19) B dX1_openOf_16 rfl (by decide) (bo_eq) (fun c16 => ?_) (fun c16 => ?_)
    · skip
      refine g_aconst_null (q := 42) B dX1_openOf_41 rfl ?_
      refine g_pk [0, 2, 0] rfl rfl ?_
      refine (show Go g κ 42 [some (.ref x), some (.ref a), some (.ref it4), none] [.null] [[(x, .inr (0, [.ref b, .ref lp, .ref lk, .ref lr, .ref lt, .ref ls, .ref lm, .ref so, .int (nI bxs)]))], w1, w2] 0 0 from ?_)
      exact g_aret B E dX1_openOf_42 (by first | exact Or.inl ⟨_, rfl⟩ | exact Or.inr ⟨_, rfl⟩) rv_n (⟨none, rfl, rfl, (fun _ => by unfold opI; rw [← hno, show k = (pPk r).length by have := hpa.1; omega, List.take_length]), fun p hp => by cases hp⟩)
    · skip
      have c16 := Classical.not_not.mp c16
      obtain ⟨id, hid⟩ := get_ex (xs := pPk r) (i := k) (by have := hpa.1; omega)
      obtain ⟨pa, hpp, hpk⟩ := hpa.2 k id hid
      obtain ⟨q, hq⟩ := get_ex (xs := Ks) (i := id) (hkb id (List.mem_of_getElem? hid))
      obtain ⟨md_2, hli_2, hln_2, hel_2⟩ := LoP.at (Sub.self hw2)
      have hE_3 := hel_2 _ _ _ hpk hq
      refine g_aload_n (q := 20) B dX1_openOf_19 rfl rfl (rv_r _) ?_
      refine g_callF (q := 25) (is := [2, 2]) (kc2 := 0) (ks2 := 0) B [] (ct_J19_next_s g J (p := pl_1) (xs := plc_1) (md := md_1) (cap := pcap_1) (it := it4) (c := k) (lr := lrx) (x := pa) (W1 := w1)  (hs_1_1) (hpp)) dX1_openOf_20 rfl (ci := 22) rfl (rc_at B (ci := 22) rfl (k := 2) rfl) q1160 q967 q969 q104 q971 q966 q965 q970 q968 q939 rfl rfl mojava_util_Iterator_next___Ljava_lang_Object_ rfl rfl (by decide) (by decide) (Nat.le_of_ble_eq_true rfl) (Nat.le_of_ble_eq_true rfl) (Nat.le_of_ble_eq_true rfl) (fun _ _ hx => noX_x hx) (fun v20 L1 hp20 => ?_)
      obtain ⟨rfl, rfl⟩ := hp20
      refine (show Go g κ 25 [some (.ref x), some (.ref a), some (.ref it4), none] [.ref pa] [[(x, .inr (0, [.ref b, .ref lp, .ref lk, .ref lr, .ref lt, .ref ls, .ref lm, .ref so, .int (nI bxs)]))], w2, [(it4, .inr (22, [.int (nI (k + 1)), .int (nI k), .int md_1, .ref pl_1]))], w1] 0 0 from ?_)
      refine g_castRS (ci := 4) (q := 28) B rfl (rc_in B (ci := 4) rfl (k := 1) rfl (Sub.hm (hE_3) fun _ z => PackP.hm z)) dX1_openOf_25 rfl q1981 ?_
      refine g_astore_n (q := 29) (lv2 := [some (.ref x), some (.ref a), some (.ref it4), some (.ref pa)]) B dX1_openOf_28 rfl (Nat.le_of_ble_eq_true rfl) (rv_r _) rfl ?_
      refine g_aload_n (q := 30) B dX1_openOf_29 rfl rfl (rv_r _) ?_
      obtain ⟨hK_4, hc_4_0⟩ := PackP.at (hE_3)
      refine g_getNM (q := 33) B (ci := 4) (k := 1) (j := 5) in_X7 rfl dX1_openOf_30 rfl rfl (hc_4_0) (Nat.le_of_ble_eq_true rfl) q1998 rfl rfl ?_
      refine g_if_eq (tgt := 38) (q := 36) B dX1_openOf_33 rfl (by decide) (bo_eq) (fun c33 => ?_) (fun c33 => ?_)
      · skip
        refine g_goto (tgt := 10) B dX1_openOf_38 (by decide) ?_
        refine g_fg 3 rfl ?_
        exact ih10 _ (by omega) (k + 1) (nI k) (by omega) (by rw [fnd_tk hid, hno, opnK_e hq, if_neg (by simpa using c33)]; rfl) rfl
      · skip
        have c33 := Classical.not_not.mp c33
        refine g_aload_n (q := 37) B dX1_openOf_36 rfl rfl (rv_r _) ?_
        refine g_pk [0, 2, 0] rfl rfl ?_
        refine (show Go g κ 37 [some (.ref x), some (.ref a), some (.ref it4), some (.ref pa)] [.ref pa] [[(x, .inr (0, [.ref b, .ref lp, .ref lk, .ref lr, .ref lt, .ref ls, .ref lm, .ref so, .int (nI bxs)]))], w1, w2] 0 0 from ?_)
        exact g_aret B E dX1_openOf_37 (by first | exact Or.inl ⟨_, rfl⟩ | exact Or.inr ⟨_, rfl⟩) (rv_r _) (⟨some pa, rfl, rfl, (fun z => by cases z), fun p hp => by cases hp; exact ⟨id, by unfold opI; rw [← List.take_append_drop (k + 1) (pPk r), List.find?_append, fnd_tk hid, hno, opnK_e hq, if_pos c33]; rfl, hpk⟩⟩)
  exact lp10 _ 0 (-1) (Nat.zero_le _) (rfl) rfl
theorem ct_X1_openOf_L (g : Gv) (J : Jd g) {pps : List Nat} {Ps : List PeS} {pcp : Nat} {ix : Nat} {pmd : Int32} {x : Nat} {lk : Nat} {b : Nat} {lp : Nat} {lr : Nat} {lt : Nat} {ls : Nat} {lm : Nat} {so : Nat} {bxs : Nat} {a : Nat} {pks : List Nat} {r : PeS} {Ks : List PkS} {kcap : Nat} {w1 : va_W} {w2 : va_W} (hw1 : PersL g lp pps Ps pcp x pks pmd w1) (hw2 : LoP g (PackP g) lk pks Ks kcap w2) (ha : pps[ix]? = some a) (hr : Ps[ix]? = some r) (hkb : ∀ i ∈ pPk r, i < Ks.length) : Ct g yX1_openOf (ws_ yX1_openOf cX1_openOf 4 (some (.object "Keygrove$Pack"))) 3 1 4 [.ref x, .ref a] [[(x, .inr (0, [.ref b, .ref lp, .ref lk, .ref lr, .ref lt, .ref ls, .ref lm, .ref so, .int (nI bxs)]))], w1, w2] (fun (rv_ : Option Value) (rL_ : List va_W) => ∃ (o : Option Nat), rv_ = some (va_rf o) ∧ rL_ = [[(x, .inr (0, [.ref b, .ref lp, .ref lk, .ref lr, .ref lt, .ref ls, .ref lm, .ref so, .int (nI bxs)]))], w1, w2] ∧ (o = none → opI Ks (pPk r) = none) ∧ (∀ p, o = some p → ∃ k, opI Ks (pPk r) = some k ∧ pks[k]? = some p)) noX := by
  obtain ⟨u1_, wi_, u2_, hwi_, hcl_, he_⟩ := PersL.opn hw1 ha hr
  subst he_
  refine Ct.lift (ct_X1_openOf g J (x := x) (lk := lk) (b := b) (lp := lp) (lr := lr) (lt := lt) (ls := ls) (lm := lm) (so := so) (bxs := bxs) (a := a) (pks := pks) (r := r) (Ks := Ks) (kcap := kcap) hwi_ hw2 hkb) [u1_, u2_] (perm_cnt fun ct h h0 => by simp only [List.flatten_cons, List.flatten_nil, List.flatten_append, h, h0]; omega) ?_
  rintro v L ⟨o, e1, rfl, hon, hos⟩
  exact ⟨[[(x, .inr (0, [.ref b, .ref lp, .ref lk, .ref lr, .ref lt, .ref ls, .ref lm, .ref so, .int (nI bxs)]))], ([u1_, wi_, u2_] : List va_W).flatten, w2], [], (perm_cnt fun ct h h0 => by simp only [List.flatten_cons, List.flatten_nil, List.flatten_append, h, h0]; omega), o, e1, rfl, hon, hos⟩
def rnw1 (Rs : List PrS) (own : Nat) (T : TrS) (r : PrS) : TrS := if r.1 = 2 ∧ r.2.1 ≠ own ∧ ¬ rmB Rs r.2.1 = true then blkF (T.1, fup T.2.1 (2 * r.2.1) (some r.2.2), T.2.2.1, T.2.2.2) (inW T.1 r.2.1) else T
def rnK (Rs : List PrS) (own : Nat) (T : TrS) (k : Nat) : TrS := (Rs.take k).foldl (rnw1 Rs own) T
theorem fold_tk {α β : Type} {l : List α} {f : β → α → β} {b : β} {k : Nat} {r : α} (h : l[k]? = some r) : (l.take (k + 1)).foldl f b = f ((l.take k).foldl f b) r := by rw [List.take_add_one, h, List.foldl_append]; rfl
theorem rnK_s {Rs : List PrS} {own : Nat} {T : TrS} {k : Nat} {r : PrS} (h : Rs[k]? = some r) : rnK Rs own T (k + 1) = rnw1 Rs own (rnK Rs own T k) r := fold_tk h
theorem rnw1_d (Rs : List PrS) (own : Nat) (T : TrS) (r : PrS) : (rnw1 Rs own T r).1 = T.1 := by unfold rnw1; split <;> rfl
theorem rnK_d (Rs : List PrS) (own : Nat) (T : TrS) : ∀ k, k ≤ Rs.length → (rnK Rs own T k).1 = T.1
  | 0, _ => rfl
  | k + 1, h => by
    obtain ⟨r, hr⟩ := get_ex (xs := Rs) (i := k) (by omega)
    rw [rnK_s hr, rnw1_d]; exact rnK_d Rs own T k (by omega)
theorem rnw1_n {Rs : List PrS} {own : Nat} {T : TrS} {r : PrS} (h : ¬ (r.1 = 2 ∧ r.2.1 ≠ own ∧ ¬ rmB Rs r.2.1 = true)) : rnw1 Rs own T r = T := by unfold rnw1; rw [if_neg h]
theorem rnw1_y {Rs : List PrS} {own : Nat} {T : TrS} {r : PrS} (h0 : r.1 = 2) (h1 : r.2.1 ≠ own) (h2 : ¬ rmB Rs r.2.1 = true) : rnw1 Rs own T r = blkF (T.1, fup T.2.1 (2 * r.2.1) (some r.2.2), T.2.2.1, T.2.2.2) (inW T.1 r.2.1) := by unfold rnw1; rw [if_pos ⟨h0, h1, h2⟩]
theorem nc_575 : Cond.not (.castable "Keygrove$Add" "Keygrove$Renew") ∈ gNc := List.mem_of_getElem? (i := 575) (by decide +kernel)
theorem nc_577 : Cond.not (.castable "Keygrove$Remove" "Keygrove$Renew") ∈ gNc := List.mem_of_getElem? (i := 577) (by decide +kernel)
theorem ct_X1_renews (g : Gv) (J : Jd g) {x : Nat} {lk : Nat} {b : Nat} {lp : Nat} {lr : Nat} {lt : Nat} {ls : Nat} {lm : Nat} {so : Nat} {bxs : Nat} {Rs : List PrS} {rcap : Nat} {pks : List Nat} {t : Nat} {T : TrS} {own : Nat} {w1 : va_W} {w2 : va_W} (hw1 : PropL g lr Rs rcap pks w1) (hw2 : TreeP g t T w2) (hRl : ∀ r ∈ Rs, r.2.1 < 1000) (hrn : ∀ r ∈ Rs, r.1 = 2 → r.2.1 < 2 ^ T.1 ∧ r.2.2 < 1000) (hol : own < 1000) : Ct g yX1_renews (ws_ yX1_renews cX1_renews 6 none) 9 (1 + 4 * Rs.length) (4 + 21 * Rs.length) [.ref x, .ref t, .int (nI own)] [[(x, .inr (0, [.ref b, .ref lp, .ref lk, .ref lr, .ref lt, .ref ls, .ref lm, .ref so, .int (nI bxs)]))], w1, w2] (fun (rv_ : Option Value) (rL_ : List va_W) => ∃ (u2 : va_W), rv_ = none ∧ rL_ = [[(x, .inr (0, [.ref b, .ref lp, .ref lk, .ref lr, .ref lt, .ref ls, .ref lm, .ref so, .int (nI bxs)]))], w1, u2] ∧ TreeP g t (rnK Rs own T Rs.length) u2) noX := by
  refine Ct.of "Keygrove" [some (.ref x), some (.ref t), some (.int (nI own)), none, none, none] rfl (by decide) rfl (Nat.le_of_ble_eq_true rfl) rfl ?_
  intro κ B E tb
  have hB := TreeP.b hw2
  have hp2 := p2_4 hB.1
  have hd4 := hB.1
  refine g_aload_n (q := 1) B dX1_renews_0 rfl rfl (rv_r _) ?_
  refine g_get (q := 4) B (ci := 0) (k := 0) (j := 3) in_X1 rfl dX1_renews_1 rfl rfl (Nat.le_of_ble_eq_true rfl) q280 rfl rfl ?_
  obtain ⟨ps_1, md_1, hli_1, hln_1, hel_1⟩ := LhP.at (Sub.self hw1)
  refine g_callF (q := 9) (is := [1]) (kc2 := (1 + 4 * Rs.length) - 1) (ks2 := (4 + 21 * Rs.length) - 4) B [] (ct_J2_iterator_s g J (p := lr) (xs := ps_1) (md := md_1) (cap := rcap) (W0 := w1)  (hli_1)) dX1_renews_4 rfl (ci := 21) rfl (rc_in B (ci := 21) rfl (k := 1) rfl (PropL.hm hw1)) q1153 q1156 q805 q81 q807 q1155 q1154 q806 q804 q318 rfl rfl mojava_util_List_iterator___Ljava_util_Iterator_ rfl rfl (by decide) (by decide) (Nat.le_of_ble_eq_true rfl) (by omega) (by omega) (fun _ _ hx => noX_x hx) (fun v4 L1 hp4 => ?_)
  obtain ⟨it4, rfl, rfl⟩ := hp4
  refine (show Go g κ 9 [some (.ref x), some (.ref t), some (.int (nI own)), none, none, none] [.ref it4] [[(x, .inr (0, [.ref b, .ref lp, .ref lk, .ref lr, .ref lt, .ref ls, .ref lm, .ref so, .int (nI bxs)]))], w2, [(it4, .inr (22, [.int (nI 0), .int (-1), .int md_1, .ref lr]))], w1] ((1 + 4 * Rs.length) - 1) ((4 + 21 * Rs.length) - 4) from ?_)
  refine g_astore_n (q := 10) (lv2 := [some (.ref x), some (.ref t), some (.int (nI own)), some (.ref it4), none, none]) B dX1_renews_9 rfl (Nat.le_of_ble_eq_true rfl) (rv_r _) rfl ?_
  have lp10 : ∀ (n10 : Nat) (k : Nat) (lrt : Int32) (l10_1 : va_W), TreeP g t (rnK Rs own T k) l10_1 → (k ≤ Rs.length) → Rs.length - k = n10 → Go g κ 10 [some (.ref x), some (.ref t), some (.int (nI own)), some (.ref it4), none, none] [] [[(x, .inr (0, [.ref b, .ref lp, .ref lk, .ref lr, .ref lt, .ref ls, .ref lm, .ref so, .int (nI bxs)]))], l10_1, [(it4, .inr (22, [.int (nI k), .int lrt, .int md_1, .ref lr]))], w1] (4 * (Rs.length - k)) (21 * (Rs.length - k)) := by
    intro n10
    induction n10 using Nat.strongRecOn with
    | _ n10 ih10 =>
    intro k lrt l10_1 hl10_1 hk hmu10
    refine g_aload_n (q := 11) B dX1_renews_10 rfl rfl (rv_r _) ?_
    refine g_callF (q := 16) (is := [2, 2]) (kc2 := 4 * (Rs.length - k)) (ks2 := 21 * (Rs.length - k)) B [] (ct_J19_hasNext_s g J (p := lr) (xs := ps_1) (md := md_1) (cap := rcap) (it := it4) (c := k) (lr := lrt) (W1 := w1)  (hli_1) (by have := hln_1.1; omega)) dX1_renews_11 rfl (ci := 22) rfl (rc_at B (ci := 22) rfl (k := 2) rfl) q1158 q940 q942 q104 q944 q938 q937 q943 q941 q939 rfl rfl mojava_util_Iterator_hasNext___Z rfl rfl (by decide) (by decide) (Nat.le_of_ble_eq_true rfl) (by omega) (by omega) (fun _ _ hx => noX_x hx) (fun v11 L1 hp11 => ?_)
    obtain ⟨rfl, rfl⟩ := hp11
    refine (show Go g κ 16 [some (.ref x), some (.ref t), some (.int (nI own)), some (.ref it4), none, none] [.int (nI (if ¬ k = ps_1.length then 1 else 0))] [[(x, .inr (0, [.ref b, .ref lp, .ref lk, .ref lr, .ref lt, .ref ls, .ref lm, .ref so, .int (nI bxs)]))], l10_1, [(it4, .inr (22, [.int (nI k), .int lrt, .int md_1, .ref lr]))], w1] (4 * (Rs.length - k)) (21 * (Rs.length - k)) from ?_)
    rw [hln_1.1]
    refine (show Go g κ 16 [some (.ref x), some (.ref t), some (.int (nI own)), some (.ref it4), none, none] [.int (nI (if ¬ k = Rs.length then 1 else 0))] [[(x, .inr (0, [.ref b, .ref lp, .ref lk, .ref lr, .ref lt, .ref ls, .ref lm, .ref so, .int (nI bxs)]))], l10_1, [(it4, .inr (22, [.int (nI k), .int lrt, .int md_1, .ref lr]))], w1] (4 * (Rs.length - k)) (21 * (Rs.length - k)) from ?_)
    refine g_if_eq (tgt := 101) (q := 19) B dX1_renews_16 rfl (by decide) (bo_eq) (fun c16 => ?_) (fun c16 => ?_)
    · skip
      have hr_2 : TreeP g t (rnK Rs own T Rs.length) l10_1 := (show k = Rs.length by omega) ▸ hl10_1
      refine g_pk [0, 2, 0] rfl rfl ?_
      refine (show Go g κ 101 [some (.ref x), some (.ref t), some (.int (nI own)), some (.ref it4), none, none] [] [[(x, .inr (0, [.ref b, .ref lp, .ref lk, .ref lr, .ref lt, .ref ls, .ref lm, .ref so, .int (nI bxs)]))], w1, l10_1] (4 * (Rs.length - k)) (21 * (Rs.length - k)) from ?_)
      exact g_vret B E dX1_renews_101 (⟨l10_1, rfl, rfl, hr_2⟩)
    · skip
      have c16 := Classical.not_not.mp c16
      refine g_aload_n (q := 20) B dX1_renews_19 rfl rfl (rv_r _) ?_
      obtain ⟨r20, hr20⟩ := get_ex (xs := Rs) (i := k) (by omega)
      obtain ⟨x20, hx20⟩ := get_ex (xs := ps_1) (i := k) (by have := get_lt2 hr20; have := hln_1.1; omega)
      have hE_3 := hel_1 _ _ _ hx20 hr20
      refine g_callF (q := 25) (is := [2, 2]) (kc2 := 4 * (Rs.length - k)) (ks2 := 21 * (Rs.length - k)) B [] (ct_J19_next_s g J (p := lr) (xs := ps_1) (md := md_1) (cap := rcap) (it := it4) (c := k) (lr := lrt) (x := x20) (W1 := w1)  (hli_1) (hx20)) dX1_renews_20 rfl (ci := 22) rfl (rc_at B (ci := 22) rfl (k := 2) rfl) q1160 q967 q969 q104 q971 q966 q965 q970 q968 q939 rfl rfl mojava_util_Iterator_next___Ljava_lang_Object_ rfl rfl (by decide) (by decide) (Nat.le_of_ble_eq_true rfl) (by omega) (by omega) (fun _ _ hx => noX_x hx) (fun v20 L1 hp20 => ?_)
      obtain ⟨rfl, rfl⟩ := hp20
      refine (show Go g κ 25 [some (.ref x), some (.ref t), some (.int (nI own)), some (.ref it4), none, none] [.ref x20] [[(x, .inr (0, [.ref b, .ref lp, .ref lk, .ref lr, .ref lt, .ref ls, .ref lm, .ref so, .int (nI bxs)]))], l10_1, [(it4, .inr (22, [.int (nI (k + 1)), .int (nI k), .int md_1, .ref lr]))], w1] (4 * (Rs.length - k)) (21 * (Rs.length - k)) from ?_)
      rcases (PropP.at (show Sub (PropP g pks x20 r20) _ from hE_3)) with ⟨hkd, kp, hkp, hcp⟩ | ⟨hkd, hcp⟩ | ⟨hkd, hcp⟩
      · skip
        refine g_castR (q := 28) B (rc_in B (ci := 8) rfl (k := 3) rfl ⟨_, hcp⟩) dX1_renews_25 rfl q2391 q3673 ?_
        refine g_astore (q := 30) (lv2 := [some (.ref x), some (.ref t), some (.int (nI own)), some (.ref it4), some (.ref x20), none]) B dX1_renews_28 rfl (Nat.le_of_ble_eq_true rfl) (rv_r _) rfl ?_
        refine g_aload (q := 32) B dX1_renews_30 rfl rfl (rv_r _) ?_
        refine g_instRNo (q := 35) B (rc_in B (ci := 8) rfl (k := 3) rfl ⟨_, hcp⟩) dX1_renews_32 rfl q2439 nc_575 ?_
        refine g_if_eq (tgt := 98) (q := 38) B dX1_renews_35 rfl (by decide) (iff_true_intro (by decide)) (fun _ => ?_) (fun z => absurd trivial z)
        refine g_goto (tgt := 10) B dX1_renews_98 (by decide) ?_
        have hr_4 : TreeP g t (rnK Rs own T (k + 1)) l10_1 := by rw [rnK_s hr20, rnw1_n (by rintro ⟨z1, z2, z3⟩; first | (rw [hkd] at z1; exact absurd z1 (by decide)) | exact z2 c47 | exact z3 (by simpa using c62))]; exact hl10_1
        refine g_fg 4 rfl ?_
        refine g_room (kc2 := 4 * (Rs.length - (k + 1))) (ks2 := 21 * (Rs.length - (k + 1))) (by omega) (by omega) ?_
        exact ih10 _ (by omega) (k + 1) (nI k) l10_1 hr_4 (by first | assumption | omega | rfl) rfl
      · skip
        refine g_castR (q := 28) B (rc_in B (ci := 9) rfl (k := 3) rfl ⟨_, hcp⟩) dX1_renews_25 rfl q2391 q3674 ?_
        refine g_astore (q := 30) (lv2 := [some (.ref x), some (.ref t), some (.int (nI own)), some (.ref it4), some (.ref x20), none]) B dX1_renews_28 rfl (Nat.le_of_ble_eq_true rfl) (rv_r _) rfl ?_
        refine g_aload (q := 32) B dX1_renews_30 rfl rfl (rv_r _) ?_
        refine g_instRNo (q := 35) B (rc_in B (ci := 9) rfl (k := 3) rfl ⟨_, hcp⟩) dX1_renews_32 rfl q2439 nc_577 ?_
        refine g_if_eq (tgt := 98) (q := 38) B dX1_renews_35 rfl (by decide) (iff_true_intro (by decide)) (fun _ => ?_) (fun z => absurd trivial z)
        refine g_goto (tgt := 10) B dX1_renews_98 (by decide) ?_
        have hr_5 : TreeP g t (rnK Rs own T (k + 1)) l10_1 := by rw [rnK_s hr20, rnw1_n (by rintro ⟨z1, z2, z3⟩; first | (rw [hkd] at z1; exact absurd z1 (by decide)) | exact z2 c47 | exact z3 (by simpa using c62))]; exact hl10_1
        refine g_fg 4 rfl ?_
        refine g_room (kc2 := 4 * (Rs.length - (k + 1))) (ks2 := 21 * (Rs.length - (k + 1))) (by omega) (by omega) ?_
        exact ih10 _ (by omega) (k + 1) (nI k) l10_1 hr_5 (by first | assumption | omega | rfl) rfl
      · skip
        refine g_castR (q := 28) B (rc_in B (ci := 10) rfl (k := 3) rfl ⟨_, hcp⟩) dX1_renews_25 rfl q2391 q3675 ?_
        refine g_astore (q := 30) (lv2 := [some (.ref x), some (.ref t), some (.int (nI own)), some (.ref it4), some (.ref x20), none]) B dX1_renews_28 rfl (Nat.le_of_ble_eq_true rfl) (rv_r _) rfl ?_
        refine g_aload (q := 32) B dX1_renews_30 rfl rfl (rv_r _) ?_
        refine g_instRS (ci := 10) (q := 35) B rfl (rc_in B (ci := 10) rfl (k := 3) rfl ⟨_, hcp⟩) dX1_renews_32 rfl q2439 ?_
        refine g_if_eq (tgt := 98) (q := 38) B dX1_renews_35 rfl (by decide) (iff_false_intro (by decide)) (fun z => z.elim) (fun _ => ?_)
        have hrd := rnK_d Rs own T k hk
        have hrl := (hrn _ (List.mem_of_getElem? hr20) hkd).1
        have hrv := (hrn _ (List.mem_of_getElem? hr20) hkd).2
        refine g_aload (q := 40) B dX1_renews_38 rfl rfl (rv_r _) ?_
        refine g_castRS (ci := 10) (q := 43) B rfl (rc_in B (ci := 10) rfl (k := 3) rfl ⟨_, hcp⟩) dX1_renews_40 rfl q2439 ?_
        refine g_getNM (q := 46) B (ci := 10) (k := 3) (j := 0) in_X19 rfl dX1_renews_43 rfl rfl (hcp) (Nat.le_of_ble_eq_true rfl) q2446 rfl rfl ?_
        refine g_iload_n (q := 47) B dX1_renews_46 rfl rfl ?_
        refine g_icmp_eq (tgt := 98) (q := 50) B dX1_renews_47 rfl (by decide) (nI_eq (by omega) (by omega)) (fun c47 => ?_) (fun c47 => ?_)
        · skip
          refine g_goto (tgt := 10) B dX1_renews_98 (by decide) ?_
          have hr_6 : TreeP g t (rnK Rs own T (k + 1)) l10_1 := by rw [rnK_s hr20, rnw1_n (by rintro ⟨z1, z2, z3⟩; first | (rw [hkd] at z1; exact absurd z1 (by decide)) | exact z2 c47 | exact z3 (by simpa using c62))]; exact hl10_1
          refine g_fg 4 rfl ?_
          refine g_room (kc2 := 4 * (Rs.length - (k + 1))) (ks2 := 21 * (Rs.length - (k + 1))) (by omega) (by omega) ?_
          exact ih10 _ (by omega) (k + 1) (nI k) l10_1 hr_6 (by first | assumption | omega | rfl) rfl
        · skip
          refine g_aload_n (q := 51) B dX1_renews_50 rfl rfl (rv_r _) ?_
          refine g_aload (q := 53) B dX1_renews_51 rfl rfl (rv_r _) ?_
          refine g_castRS (ci := 10) (q := 56) B rfl (rc_in B (ci := 10) rfl (k := 3) rfl ⟨_, hcp⟩) dX1_renews_53 rfl q2439 ?_
          refine g_getNM (q := 59) B (ci := 10) (k := 3) (j := 0) in_X19 rfl dX1_renews_56 rfl rfl (hcp) (Nat.le_of_ble_eq_true rfl) q2446 rfl rfl ?_
          refine g_callV (q := 62) (is := [0, 2]) (kc2 := (4 * (Rs.length - k)) - 1) (ks2 := (21 * (Rs.length - k)) - 4) B [.int (nI r20.2.1)] (ct_X1_isToBeRemoved g J (x := x) (lk := lk) (b := b) (lp := lp) (lr := lr) (lt := lt) (ls := ls) (lm := lm) (so := so) (bxs := bxs) (Rs := Rs) (rcap := rcap) (pks := pks) (l := r20.2.1) hw1 (by have := hRl r20 (List.mem_of_getElem? hr20); omega) (hRl)) dX1_renews_59 rfl (rc_at B (ci := 0) rfl (k := 0) rfl) rfl q2417 q2419 qs31 q77 q2420 rfl rfl moX1_isToBeRemoved rfl rfl (by decide) (by decide) (Nat.le_of_ble_eq_true rfl) (by omega) (by omega) (fun _ _ hx => noX_x hx) (fun v59 L1 hp59 => ?_)
          obtain ⟨rfl, rfl⟩ := hp59
          refine (show Go g κ 62 [some (.ref x), some (.ref t), some (.int (nI own)), some (.ref it4), some (.ref x20), none] [.int (nI (if rmB Rs r20.2.1 = true then 1 else 0))] [l10_1, [(it4, .inr (22, [.int (nI (k + 1)), .int (nI k), .int md_1, .ref lr]))], [(x, .inr (0, [.ref b, .ref lp, .ref lk, .ref lr, .ref lt, .ref ls, .ref lm, .ref so, .int (nI bxs)]))], w1] ((4 * (Rs.length - k)) - 1) ((21 * (Rs.length - k)) - 4) from ?_)
          refine g_if_ne (tgt := 98) (q := 65) B dX1_renews_62 rfl (by decide) (bo_ne) (fun c62 => ?_) (fun c62 => ?_)
          · skip
            refine g_goto (tgt := 10) B dX1_renews_98 (by decide) ?_
            have hr_7 : TreeP g t (rnK Rs own T (k + 1)) l10_1 := by rw [rnK_s hr20, rnw1_n (by rintro ⟨z1, z2, z3⟩; first | (rw [hkd] at z1; exact absurd z1 (by decide)) | exact z2 c47 | exact z3 (by simpa using c62))]; exact hl10_1
            refine g_fg 4 rfl ?_
            refine g_pk [2, 0, 0, 0] rfl rfl ?_
            refine (show Go g κ 10 [some (.ref x), some (.ref t), some (.int (nI own)), some (.ref it4), none, none] [] [[(x, .inr (0, [.ref b, .ref lp, .ref lk, .ref lr, .ref lt, .ref ls, .ref lm, .ref so, .int (nI bxs)]))], l10_1, [(it4, .inr (22, [.int (nI (k + 1)), .int (nI k), .int md_1, .ref lr]))], w1] ((4 * (Rs.length - k)) - 1) ((21 * (Rs.length - k)) - 4) from ?_)
            refine g_room (kc2 := 4 * (Rs.length - (k + 1))) (ks2 := 21 * (Rs.length - (k + 1))) (by omega) (by omega) ?_
            exact ih10 _ (by omega) (k + 1) (nI k) l10_1 hr_7 (by first | assumption | omega | rfl) rfl
          · skip
            refine g_aload (q := 67) B dX1_renews_65 rfl rfl (rv_r _) ?_
            refine g_castRS (ci := 10) (q := 70) B rfl (rc_in B (ci := 10) rfl (k := 3) rfl ⟨_, hcp⟩) dX1_renews_67 rfl q2439 ?_
            refine g_astore (q := 72) (lv2 := [some (.ref x), some (.ref t), some (.int (nI own)), some (.ref it4), some (.ref x20), some (.ref x20)]) B dX1_renews_70 rfl (Nat.le_of_ble_eq_true rfl) (rv_r _) rfl ?_
            obtain ⟨as_t, al_t, ap_t, fs_t, fl_t, fp_t, hB_t, hfs_t, hfl_t, hfp_t, rfl⟩ := hl10_1
            refine g_open 0 rfl rfl rfl ?_
            refine (show Go g κ 72 [some (.ref x), some (.ref t), some (.int (nI own)), some (.ref it4), some (.ref x20), some (.ref x20)] [] [[(it4, .inr (22, [.int (nI (k + 1)), .int (nI k), .int md_1, .ref lr]))], [(x, .inr (0, [.ref b, .ref lp, .ref lk, .ref lr, .ref lt, .ref ls, .ref lm, .ref so, .int (nI bxs)]))], w1, [(t, .inr (5, [.int (nI (2 ^ (rnK Rs own T k).1)), .ref as_t, .ref al_t, .ref ap_t]))], [(as_t, .inl (g.2.1 0, 31, .inl fs_t))], [(al_t, .inl (g.2.1 0, 31, .inl fl_t))], [(ap_t, .inl (g.2.1 0, 16, .inl fp_t))]] ((4 * (Rs.length - k)) - 1) ((21 * (Rs.length - k)) - 4) from ?_)
            refine g_aload_n (q := 73) B dX1_renews_72 rfl rfl (rv_r _) ?_
            refine g_getN (q := 76) B (ci := 5) (k := 3) (j := 1) in_X10 rfl dX1_renews_73 rfl rfl (Nat.le_of_ble_eq_true rfl) q2040 rfl rfl ?_
            refine g_iconst (v := nI 2) (q := 77) B dX1_renews_76 rfl (by decide) ?_
            refine g_aload (q := 79) B dX1_renews_77 rfl rfl (rv_r _) ?_
            refine g_getNM (q := 82) B (ci := 10) (k := 2) (j := 0) in_X19 rfl dX1_renews_79 rfl rfl (hcp) (Nat.le_of_ble_eq_true rfl) q2446 rfl rfl ?_
            refine g_imul (v := nI (2 * r20.2.1)) (q := 83) B dX1_renews_82 rfl (pk_mul _ _) ?_
            refine g_aload (q := 85) B dX1_renews_83 rfl rfl (rv_r _) ?_
            refine g_getNM (q := 88) B (ci := 10) (k := 2) (j := 1) in_X19 rfl dX1_renews_85 rfl rfl (hcp) (Nat.le_of_ble_eq_true rfl) q2448 rfl rfl ?_
            refine g_iast (q := 89) (L2 := [[(it4, .inr (22, [.int (nI (k + 1)), .int (nI k), .int md_1, .ref lr]))], [(x, .inr (0, [.ref b, .ref lp, .ref lk, .ref lr, .ref lt, .ref ls, .ref lm, .ref so, .int (nI bxs)]))], w1, [(t, .inr (5, [.int (nI (2 ^ (rnK Rs own T k).1)), .ref as_t, .ref al_t, .ref ap_t]))], [(as_t, .inl (g.2.1 0, 31, .inl (upd fs_t (2 * r20.2.1) (nI r20.2.2))))], [(al_t, .inl (g.2.1 0, 31, .inl fl_t))], [(ap_t, .inl (g.2.1 0, 16, .inl fp_t))]]) B (k := 4) dX1_renews_88 rfl rfl (vp_in_nI (by omega) (by omega)) (by rw [nI_clamp (by omega)] <;> rfl) ?_
            obtain ⟨f88, ef88⟩ : ∃ f : Nat → Int32, f = upd fs_t (2 * r20.2.1) (nI r20.2.2) := ⟨_, rfl⟩
            have hf88 : ∀ i, i < 31 → f88 i = oI (fup ((rnK Rs own T k).2.1) (2 * r20.2.1) (some r20.2.2) i) := by rw [ef88]; exact upd_oI hfs_t _ (some r20.2.2)
            rw [← ef88]
            refine (show Go g κ 89 [some (.ref x), some (.ref t), some (.int (nI own)), some (.ref it4), some (.ref x20), some (.ref x20)] [] [[(it4, .inr (22, [.int (nI (k + 1)), .int (nI k), .int md_1, .ref lr]))], [(x, .inr (0, [.ref b, .ref lp, .ref lk, .ref lr, .ref lt, .ref ls, .ref lm, .ref so, .int (nI bxs)]))], w1, [(t, .inr (5, [.int (nI (2 ^ (rnK Rs own T k).1)), .ref as_t, .ref al_t, .ref ap_t]))], [(as_t, .inl (g.2.1 0, 31, .inl f88))], [(al_t, .inl (g.2.1 0, 31, .inl fl_t))], [(ap_t, .inl (g.2.1 0, 16, .inl fp_t))]] ((4 * (Rs.length - k)) - 1) ((21 * (Rs.length - k)) - 4) from ?_)
            obtain ⟨wc_8, ewc_8⟩ : ∃ w : va_W, w = ([[(t, .inr (5, [.int (nI (2 ^ (rnK Rs own T k).1)), .ref as_t, .ref al_t, .ref ap_t]))], [(as_t, .inl (g.2.1 0, 31, .inl f88))], [(al_t, .inl (g.2.1 0, 31, .inl fl_t))], [(ap_t, .inl (g.2.1 0, 16, .inl fp_t))]] : List va_W).flatten := ⟨_, rfl⟩
            have hwc_8 : TreeP g t (((rnK Rs own T k).1, fup (rnK Rs own T k).2.1 (2 * r20.2.1) (some r20.2.2), (rnK Rs own T k).2.2.1, (rnK Rs own T k).2.2.2) : TrS) wc_8 := by
              rw [ewc_8]
              exact ⟨as_t, al_t, ap_t, f88, fl_t, fp_t, (TrB.sec hB_t _ (some r20.2.2) (fun n h => by cases h; exact hrv)), hf88, hfl_t, hfp_t, rfl⟩
            refine g_close (w := wc_8) [3, 3, 3, 3] rfl ewc_8 rfl ?_
            refine (show Go g κ 89 [some (.ref x), some (.ref t), some (.int (nI own)), some (.ref it4), some (.ref x20), some (.ref x20)] [] [[(it4, .inr (22, [.int (nI (k + 1)), .int (nI k), .int md_1, .ref lr]))], [(x, .inr (0, [.ref b, .ref lp, .ref lk, .ref lr, .ref lt, .ref ls, .ref lm, .ref so, .int (nI bxs)]))], w1, wc_8] ((4 * (Rs.length - k)) - 1) ((21 * (Rs.length - k)) - 4) from ?_)
            refine g_aload_n (q := 90) B dX1_renews_89 rfl rfl (rv_r _) ?_
            refine g_aload (q := 92) B dX1_renews_90 rfl rfl (rv_r _) ?_
            refine g_getNM (q := 95) B (ci := 10) (k := 2) (j := 0) in_X19 rfl dX1_renews_92 rfl rfl (hcp) (Nat.le_of_ble_eq_true rfl) q2446 rfl rfl ?_
            refine g_callV (q := 98) (is := [3]) (kc2 := (4 * (Rs.length - k)) - 4) (ks2 := (21 * (Rs.length - k)) - 21) B [.int (nI r20.2.1)] (ct_X10_blanksWay g J (t := t) (T := (((rnK Rs own T k).1, fup (rnK Rs own T k).2.1 (2 * r20.2.1) (some r20.2.2), (rnK Rs own T k).2.2.1, (rnK Rs own T k).2.2.2) : TrS)) (l := r20.2.1) hwc_8 (by show r20.2.1 < 2 ^ (rnK Rs own T k).1; rw [hrd]; exact hrl)) dX1_renews_95 rfl (rc_in B (ci := 5) rfl (k := 3) rfl (TreeP.hm hwc_8)) rfl q2490 q2491 q2492 q123 q2493 rfl rfl moX10_blanksWay rfl rfl (by decide) (by decide) (Nat.le_of_ble_eq_true rfl) (by omega) (by omega) (fun _ _ hx => noX_x hx) (fun v95 L1 hp95 => ?_)
            obtain ⟨u0_95, rfl, rfl, hu0_95⟩ := hp95
            refine (show Go g κ 98 [some (.ref x), some (.ref t), some (.int (nI own)), some (.ref it4), some (.ref x20), some (.ref x20)] [] [[(it4, .inr (22, [.int (nI (k + 1)), .int (nI k), .int md_1, .ref lr]))], [(x, .inr (0, [.ref b, .ref lp, .ref lk, .ref lr, .ref lt, .ref ls, .ref lm, .ref so, .int (nI bxs)]))], w1, u0_95] ((4 * (Rs.length - k)) - 4) ((21 * (Rs.length - k)) - 21) from ?_)
            refine g_goto (tgt := 10) B dX1_renews_98 (by decide) ?_
            have hr_9 : TreeP g t (rnK Rs own T (k + 1)) u0_95 := by rw [rnK_s hr20, rnw1_y hkd c47 c62]; exact hu0_95
            refine g_fg 4 rfl ?_
            refine g_fg 5 rfl ?_
            refine g_pk [1, 2, 0, 0] rfl rfl ?_
            refine (show Go g κ 10 [some (.ref x), some (.ref t), some (.int (nI own)), some (.ref it4), none, none] [] [[(x, .inr (0, [.ref b, .ref lp, .ref lk, .ref lr, .ref lt, .ref ls, .ref lm, .ref so, .int (nI bxs)]))], u0_95, [(it4, .inr (22, [.int (nI (k + 1)), .int (nI k), .int md_1, .ref lr]))], w1] ((4 * (Rs.length - k)) - 4) ((21 * (Rs.length - k)) - 21) from ?_)
            refine g_room (kc2 := 4 * (Rs.length - (k + 1))) (ks2 := 21 * (Rs.length - (k + 1))) (by omega) (by omega) ?_
            exact ih10 _ (by omega) (k + 1) (nI k) u0_95 hr_9 (by first | assumption | omega | rfl) rfl
  have hr_10 : TreeP g t (rnK Rs own T 0) w2 := hw2
  refine g_room (kc2 := 4 * (Rs.length - 0)) (ks2 := 21 * (Rs.length - 0)) (by omega) (by omega) ?_
  exact lp10 _ 0 (-1) w2 hr_10 (Nat.zero_le _) rfl
