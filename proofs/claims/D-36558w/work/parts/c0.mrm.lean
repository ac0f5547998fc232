set_option maxRecDepth 100000
/-- the list of packages with its modCount -/
def MkM (g : Gv) (p : Nat) (ps : List Nat) (rs : List MkS) (cap : Nat) (md : Int32) (w : va_W) : Prop := ∃ (w1 w2 : va_W), ListP g p ps md cap w1 ∧ BigL (MqP g) ps rs w2 ∧ w = ([w1, w2] : List va_W).flatten
section
variable {g : Gv} {p : Nat} {ps : List Nat} {rs : List MkS} {cap : Nat} {md : Int32} {w : va_W}
theorem MkM.lo (h : MkM g p ps rs cap md w) : LoP g (MqP g) p ps rs cap w := by
  obtain ⟨w1, w2, h⟩ := h
  exact ⟨md, w1, w2, h⟩
theorem MkM.of (h : LoP g (MqP g) p ps rs cap w) : ∃ md, MkM g p ps rs cap md w := by
  obtain ⟨md, w1, w2, h⟩ := h
  exact ⟨md, w1, w2, h⟩
theorem MkM.hm (h : MkM g p ps rs cap md w) : ∃ fs, (p, .inr (21, fs)) ∈ w := h.lo.hm
theorem MkM.at {W : va_W} (h : Sub (MkM g p ps rs cap md) W) : Sub (ListP g p ps md cap) W ∧ (ps.length = rs.length ∧ rs.length ≤ cap ∧ cap < 16777216) ∧ ∀ (i a : Nat) (r : MkS), ps[i]? = some a → rs[i]? = some r → Sub (MqP g a r) W := by
  obtain ⟨w, R, hp, h⟩ := h
  have hl := h.lo
  obtain ⟨w1, w2, h1, h2, rfl⟩ := h
  exact ⟨Sub.in hp rfl 0 rfl h1, hl.len, fun i a r ha hr => (hl.el ha hr).up hp⟩
theorem MkM.opn (h : MkM g p ps rs cap md w) {i a : Nat} {r : MkS} (ha : ps[i]? = some a) (hr : rs[i]? = some r) : ∃ w1 wi w2 : va_W, MqP g a r wi ∧ (∀ (r2 : MkS) (wj : va_W), MqP g a r2 wj → MkM g p ps (rs.set i r2) cap md ([w1, wj, w2] : List va_W).flatten) ∧ w = ([w1, wi, w2] : List va_W).flatten := by
  obtain ⟨wl, wb, h1, h2, rfl⟩ := h
  obtain ⟨w1, wi, w2, h3, h4, rfl⟩ := h2.opn ha hr
  exact ⟨([wl, w1] : List va_W).flatten, wi, w2, h3, fun r2 wj hj => ⟨wl, _, h1, h4 r2 wj hj, by simp⟩, by simp⟩
end
/-- who was removed: its packages that were used are gone -/
def gnP (p : Nat) (q : MkS) : MkS := if q.1 = p ∧ q.2.2.2.1 = true then (q.1, q.2.1, q.2.2.1, q.2.2.2.1, true) else q
def gnK (p : Nat) (Ks : List MkS) (j : Nat) : List MkS := (Ks.take j).map (gnP p) ++ Ks.drop j
theorem gnK_l (p : Nat) (Ks : List MkS) (j : Nat) : (gnK p Ks j).length = Ks.length := by unfold gnK; simp; omega
theorem gnK_0 (p : Nat) (Ks : List MkS) : gnK p Ks 0 = Ks := by unfold gnK; simp
theorem gnK_e (p : Nat) (Ks : List MkS) : gnK p Ks Ks.length = Ks.map (gnP p) := by unfold gnK; simp
theorem gnK_at {p : Nat} {Ks : List MkS} {j : Nat} (h : j < Ks.length) : (gnK p Ks j)[j]? = Ks[j]? := by
  unfold gnK
  rw [List.getElem?_append_right (by simp; omega)]
  simp only [List.length_map, List.length_take, List.getElem?_drop]
  rw [Nat.min_eq_left (by omega), Nat.sub_self, Nat.add_zero]
theorem gnK_s {p : Nat} {Ks : List MkS} {j : Nat} {q : MkS} (h : Ks[j]? = some q) : (gnK p Ks j).set j (gnP p q) = gnK p Ks (j + 1) := by
  have hl := get_lt2 h
  unfold gnK
  have e : Ks.drop j = q :: Ks.drop (j + 1) := by
    rw [List.drop_eq_getElem_cons hl]
    obtain ⟨_, e⟩ := List.getElem?_eq_some_iff.mp h
    rw [e]
  rw [List.take_add_one, h, List.map_append, e, List.set_append_right _ _ (by simp; omega)]
  simp only [List.length_map, List.length_take]
  rw [Nat.min_eq_left (by omega), Nat.sub_self]
  simp
abbrev RnS : Type := TrS × (Nat → Bool) × List MkS
def rmM1 (S : RnS) (r : MrS) : RnS := if r.1 = 114 then (match S.1.2.2.2 r.2.2 with
  | none => S
  | some p => (remT S.1 r.2.2, fup S.2.1 r.2.2 true, S.2.2.map (gnP p))) else S
def rmM (Rs : List MrS) (S : RnS) (k : Nat) : RnS := (Rs.take k).foldl rmM1 S
theorem rmM_s {Rs : List MrS} {S : RnS} {k : Nat} {r : MrS} (h : Rs[k]? = some r) : rmM Rs S (k + 1) = rmM1 (rmM Rs S k) r := fold_tk h
theorem rmM1_n {S : RnS} {r : MrS} (h : ¬ r.1 = 114) : rmM1 S r = S := by unfold rmM1; rw [if_neg h]
theorem rmM1_y {S : RnS} {r : MrS} {p : Nat} (h : r.1 = 114) (hp : S.1.2.2.2 r.2.2 = some p) : rmM1 S r = (remT S.1 r.2.2, fup S.2.1 r.2.2 true, S.2.2.map (gnP p)) := by unfold rmM1; rw [if_pos h, hp]
def LT0 (T : TrS) : Prop := ∀ l, T.2.2.1 (2 * l) = 0
theorem LT0.rem {T : TrS} (h : LT0 T) (l : Nat) : LT0 (remT T l) := by
  intro k
  show (if inW T.1 l (2 * k) = true then 0 else fup T.2.2.1 (2 * l) 0 (2 * k)) = 0
  split
  · rfl
  · unfold fup; split
    · rfl
    · exact h k
theorem remT_e {T : TrS} (h : LT0 T) (l : Nat) : blkF (T.1, fup T.2.1 (2 * l) none, T.2.2.1, fup T.2.2.2 l none) (inW T.1 l) = remT T l := by
  unfold remT
  have e : (blkN T (2 * l)).2.2.1 = T.2.2.1 := fup_idt (h l)
  rw [e]; rfl
theorem rmM1_i {S : RnS} {r : MrS} (h : LT0 S.1) : LT0 (rmM1 S r).1 ∧ (rmM1 S r).1.1 = S.1.1 ∧ (rmM1 S r).2.2.length = S.2.2.length := by
  unfold rmM1
  split
  · split
    · exact ⟨h, rfl, rfl⟩
    · exact ⟨h.rem _, rfl, by simp⟩
  · exact ⟨h, rfl, rfl⟩
theorem rmM_i (Rs : List MrS) (S : RnS) (h : LT0 S.1) : ∀ k, k ≤ Rs.length → LT0 (rmM Rs S k).1 ∧ (rmM Rs S k).1.1 = S.1.1 ∧ (rmM Rs S k).2.2.length = S.2.2.length
  | 0, _ => ⟨h, rfl, rfl⟩
  | k + 1, hk => by
    obtain ⟨r, hr⟩ := get_ex (xs := Rs) (i := k) (by omega)
    obtain ⟨h1, h2, h3⟩ := rmM_i Rs S h k (by omega)
    obtain ⟨h4, h5, h6⟩ := rmM1_i (r := r) h1
    rw [rmM_s hr]; exact ⟨h4, h5.trans h2, h6.trans h3⟩
theorem PN.half {T : TrS} (h : PN T) (hd : 0 < T.1) (hd4 : T.1 ≤ 4) (hb : bare T.2.2.2 T.1 (2 ^ (T.1 - 1)) = true) : PN (halfT T) := by
  intro l hl
  have hp := pw_h hd
  show T.2.2.2 l = none ↔ (if inH T.1 (2 * l) = true then none else T.2.1 (2 * l)) = none
  split
  · rename_i hi
    refine ⟨fun _ => rfl, fun _ => ?_⟩
    unfold inH at hi
    rw [Bool.and_eq_true, decide_eq_true_iff, decide_eq_true_iff] at hi
    unfold bare at hb
    rw [List.all_eq_true] at hb
    have h9 := hb (l - 2 ^ (T.1 - 1)) (List.mem_range.mpr (by omega))
    rw [show 2 ^ (T.1 - 1) + (l - 2 ^ (T.1 - 1)) = l by omega] at h9
    simpa using h9
  · exact h l hl
theorem moX3_isRightBlank : Mo yX3_isRightBlank 1 := by
  refine ⟨by decide, by decide, by decide +kernel⟩
theorem moX3_blanks : Mo yX3_blanks 2 := by
  refine ⟨by decide, by decide, by decide +kernel⟩
theorem ct_X3_removes (g : Gv) (J : Jd g) {m : Nat} {ls : Nat} {lb : Nat} {lk : Nat} {lp : Nat} {lr : Nat} {le : Nat} {lm : Nat} {lo : Nat} {th : Nat} {z : Int32} {bo : Nat} {cm : Nat} {Rs : List MrS} {rcap : Nat} {mks : List Nat} {Ks : List MkS} {kcap : Nat} {e : Nat} {r : MeS} {w1 : va_W} {w2 : va_W} {w3 : va_W} (hw1 : LhP g (MrP g) lr Rs rcap w1) (hw2 : LoP g (MqP g) lk mks Ks kcap w2) (hw3 : EpP g e r w3) (hRb : ∀ q ∈ Rs, q.1 < 200 ∧ q.2.1 < 16 ∧ q.2.2 < 1000) (hrm : ∀ (k : Nat) (q : MrS), Rs[k]? = some q → q.1 = 114 → q.2.2 < 2 ^ (eTr r).1 ∧ ∃ p, (rmM Rs ((eTr r, eRm r, Ks) : RnS) k).1.2.2.2 q.2.2 = some p) (hL0 : LT0 (eTr r)) (hPN : PN (rmM Rs ((eTr r, eRm r, Ks) : RnS) Rs.length).1) : Ct g yX3_removes (ws_ yX3_removes cX3_removes 7 none) 4 (1 + Rs.length) (4 + 4 * Rs.length) [.ref m, .ref e] [[(m, .inr (12, [.ref ls, .ref lb, .ref lk, .ref lp, .ref lr, .ref le, .ref lm, .ref lo, .int (nI th), .int z, .int (nI bo), .int (nI cm)]))], w1, w2, w3] (fun (rv_ : Option Value) (rL_ : List va_W) => ∃ (u2 : va_W) (u3 : va_W), rv_ = none ∧ rL_ = [[(m, .inr (12, [.ref ls, .ref lb, .ref lk, .ref lp, .ref lr, .ref le, .ref lm, .ref lo, .int (nI th), .int z, .int (nI bo), .int (nI cm)]))], w1, u2, u3] ∧ LoP g (MqP g) lk mks ((rmM Rs ((eTr r, eRm r, Ks) : RnS) Rs.length).2.2) kcap u2 ∧ EpP g e ((eNo r, (hlv (rmM Rs ((eTr r, eRm r, Ks) : RnS) Rs.length).1), eGo r, eKy r, eCh r, eWy r, (rmM Rs ((eTr r, eRm r, Ks) : RnS) Rs.length).2.1, ePk r) : MeS) u3) noX := by
  refine Ct.of "KeygroveModel" [some (.ref m), some (.ref e), none, none, none, none, none] rfl (by decide) rfl (Nat.le_of_ble_eq_true rfl) rfl ?_
  intro κ B E tb
  have hEr := EpP.b hw3
  have hTr : TrB (eTr r) := hEr.2.1
  have hp2r := p2_4 hTr.1
  refine g_aload_n (q := 1) B dX3_removes_0 rfl rfl (rv_r _) ?_
  refine g_get (q := 4) B (ci := 12) (k := 0) (j := 4) in_X3 rfl dX3_removes_1 rfl rfl (Nat.le_of_ble_eq_true rfl) q3061 rfl rfl ?_
  obtain ⟨ps_1, md_1, hli_1, hln_1, hel_1⟩ := LhP.at (Sub.self hw1)
  refine g_callV (q := 7) (is := [1]) (kc2 := (1 + Rs.length) - 1) (ks2 := (4 + 4 * Rs.length) - 4) B [] (ct_J2_iterator_s g J (p := lr) (xs := ps_1) (md := md_1) (cap := rcap) (W0 := w1)  (hli_1)) dX3_removes_4 rfl (rc_in B (ci := 21) rfl (k := 1) rfl (LhP.hm hw1)) rfl q3232 q805 q3668 q81 q807 rfl rfl moJ2_iterator rfl rfl (by decide) (by decide) (Nat.le_of_ble_eq_true rfl) (by omega) (by omega) (fun _ _ hx => noX_x hx) (fun v4 L1 hp4 => ?_)
  obtain ⟨it4, rfl, rfl⟩ := hp4
  refine (show Go g κ 7 [some (.ref m), some (.ref e), none, none, none, none, none] [.ref it4] [[(m, .inr (12, [.ref ls, .ref lb, .ref lk, .ref lp, .ref lr, .ref le, .ref lm, .ref lo, .int (nI th), .int z, .int (nI bo), .int (nI cm)]))], w2, w3, [(it4, .inr (22, [.int (nI 0), .int (-1), .int md_1, .ref lr]))], w1] ((1 + Rs.length) - 1) ((4 + 4 * Rs.length) - 4) from ?_)
  refine g_astore_n (q := 8) (lv2 := [some (.ref m), some (.ref e), some (.ref it4), none, none, none, none]) B dX3_removes_7 rfl (Nat.le_of_ble_eq_true rfl) (rv_r _) rfl ?_
  have lp8 : ∀ (n8 : Nat) (k : Nat) (lrt : Int32) (S : RnS) (l8_1 : va_W) (l8_2 : va_W), LoP g (MqP g) lk mks S.2.2 kcap l8_1 → EpP g e ((eNo r, S.1, eGo r, eKy r, eCh r, eWy r, S.2.1, ePk r) : MeS) l8_2 → (k ≤ Rs.length) → (S = rmM Rs ((eTr r, eRm r, Ks) : RnS) k) → Rs.length - k = n8 → Go g κ 8 [some (.ref m), some (.ref e), some (.ref it4), none, none, none, none] [] [[(m, .inr (12, [.ref ls, .ref lb, .ref lk, .ref lp, .ref lr, .ref le, .ref lm, .ref lo, .int (nI th), .int z, .int (nI bo), .int (nI cm)]))], l8_1, l8_2, [(it4, .inr (22, [.int (nI k), .int lrt, .int md_1, .ref lr]))], w1] (Rs.length - k) (4 * (Rs.length - k)) := by
    intro n8
    induction n8 using Nat.strongRecOn with
    | _ n8 ih8 =>
    intro k lrt S l8_1 l8_2 hl8_1 hl8_2 hk hS hmu8
    refine g_aload_n (q := 9) B dX3_removes_8 rfl rfl (rv_r _) ?_
    refine g_callF (q := 14) (is := [3, 3]) (kc2 := Rs.length - k) (ks2 := 4 * (Rs.length - k)) B [] (ct_J19_hasNext_s g J (p := lr) (xs := ps_1) (md := md_1) (cap := rcap) (it := it4) (c := k) (lr := lrt) (W1 := w1)  (hli_1) (by have := hln_1.1; omega)) dX3_removes_9 rfl (ci := 22) rfl (rc_at B (ci := 22) rfl (k := 3) rfl) q3234 q940 q942 q104 q944 q938 q937 q943 q941 q939 rfl rfl mojava_util_Iterator_hasNext___Z rfl rfl (by decide) (by decide) (Nat.le_of_ble_eq_true rfl) (by omega) (by omega) (fun _ _ hx => noX_x hx) (fun v9 L1 hp9 => ?_)
    obtain ⟨rfl, rfl⟩ := hp9
    refine (show Go g κ 14 [some (.ref m), some (.ref e), some (.ref it4), none, none, none, none] [.int (nI (if ¬ k = ps_1.length then 1 else 0))] [[(m, .inr (12, [.ref ls, .ref lb, .ref lk, .ref lp, .ref lr, .ref le, .ref lm, .ref lo, .int (nI th), .int z, .int (nI bo), .int (nI cm)]))], l8_1, l8_2, [(it4, .inr (22, [.int (nI k), .int lrt, .int md_1, .ref lr]))], w1] (Rs.length - k) (4 * (Rs.length - k)) from ?_)
    rw [hln_1.1]
    refine (show Go g κ 14 [some (.ref m), some (.ref e), some (.ref it4), none, none, none, none] [.int (nI (if ¬ k = Rs.length then 1 else 0))] [[(m, .inr (12, [.ref ls, .ref lb, .ref lk, .ref lp, .ref lr, .ref le, .ref lm, .ref lo, .int (nI th), .int z, .int (nI bo), .int (nI cm)]))], l8_1, l8_2, [(it4, .inr (22, [.int (nI k), .int lrt, .int md_1, .ref lr]))], w1] (Rs.length - k) (4 * (Rs.length - k)) from ?_)
    refine g_if_eq (tgt := 151) (q := 17) B dX3_removes_14 rfl (by decide) (bo_eq) (fun c14 => ?_) (fun c14 => ?_)
    · skip
      have hkR : k = Rs.length := by omega
      have hSF : S = (rmM Rs ((eTr r, eRm r, Ks) : RnS) Rs.length) := by rw [hS, hkR]
      obtain ⟨hz1, hz2, hz3⟩ := rmM_i Rs ((eTr r, eRm r, Ks) : RnS) hL0 Rs.length (Nat.le_refl _)
      rw [← hSF] at hPN hz1 hz2 hz3
      have hz2 : S.1.1 = (eTr r).1 := hz2
      have lp151 : ∀ (n151 : Nat) (T1 : TrS) (l151_2 : va_W), EpP g e ((eNo r, T1, eGo r, eKy r, eCh r, eWy r, S.2.1, ePk r) : MeS) l151_2 → (hlv T1 = hlv S.1) → (PN T1) → T1.1 = n151 → Go g κ 151 [some (.ref m), some (.ref e), none, none, none, none, none] [] [[(m, .inr (12, [.ref ls, .ref lb, .ref lk, .ref lp, .ref lr, .ref le, .ref lm, .ref lo, .int (nI th), .int z, .int (nI bo), .int (nI cm)]))], l8_1, l151_2, w1] 0 0 := by
        intro n151
        induction n151 using Nat.strongRecOn with
        | _ n151 ih151 =>
        intro T1 l151_2 hl151_2 hT1 hP1 hmu151
        refine g_aload_n (q := 152) B dX3_removes_151 rfl rfl (rv_r _) ?_
        refine g_callS (q := 155) (is := [2]) (kc2 := 0) (ks2 := 0) B [.ref e] (ct_X3_isRightBlank g J (e := e) (r := ((eNo r, T1, eGo r, eKy r, eCh r, eWy r, S.2.1, ePk r) : MeS)) hl151_2 (hP1)) dX3_removes_152 rfl q3449 q3450 q85 q3451 rfl rfl moX3_isRightBlank rfl rfl (by decide) (by decide) (Nat.le_of_ble_eq_true rfl) (Nat.le_of_ble_eq_true rfl) (Nat.le_of_ble_eq_true rfl) (fun _ _ hx => noX_x hx) (fun v152 L1 hp152 => ?_)
        obtain ⟨rfl, rfl⟩ := hp152
        refine (show Go g κ 155 [some (.ref m), some (.ref e), none, none, none, none, none] [.int (nI (if (0 < (eTr ((eNo r, T1, eGo r, eKy r, eCh r, eWy r, S.2.1, ePk r) : MeS)).1 ∧ bare (eTr ((eNo r, T1, eGo r, eKy r, eCh r, eWy r, S.2.1, ePk r) : MeS)).2.2.2 (eTr ((eNo r, T1, eGo r, eKy r, eCh r, eWy r, S.2.1, ePk r) : MeS)).1 (2 ^ ((eTr ((eNo r, T1, eGo r, eKy r, eCh r, eWy r, S.2.1, ePk r) : MeS)).1 - 1)) = true) then 1 else 0))] [[(m, .inr (12, [.ref ls, .ref lb, .ref lk, .ref lp, .ref lr, .ref le, .ref lm, .ref lo, .int (nI th), .int z, .int (nI bo), .int (nI cm)]))], l8_1, w1, l151_2] 0 0 from ?_)
        refine g_if_eq (tgt := 206) (q := 158) B dX3_removes_155 rfl (by decide) (bo_eq) (fun c155 => ?_) (fun c155 => ?_)
        · skip
          have hr_2 : EpP g e ((eNo r, (hlv (rmM Rs ((eTr r, eRm r, Ks) : RnS) Rs.length).1), eGo r, eKy r, eCh r, eWy r, (rmM Rs ((eTr r, eRm r, Ks) : RnS) Rs.length).2.1, ePk r) : MeS) l151_2 := by rw [← hSF, ← hT1, hlvF_n c155]; exact hl151_2
          have hr_3 : LoP g (MqP g) lk mks ((rmM Rs ((eTr r, eRm r, Ks) : RnS) Rs.length).2.2) kcap l8_1 := by rw [← hSF]; exact hl8_1
          refine g_pk [0, 1, 0, 0] rfl rfl ?_
          refine (show Go g κ 206 [some (.ref m), some (.ref e), none, none, none, none, none] [] [[(m, .inr (12, [.ref ls, .ref lb, .ref lk, .ref lp, .ref lr, .ref le, .ref lm, .ref lo, .int (nI th), .int z, .int (nI bo), .int (nI cm)]))], w1, l8_1, l151_2] 0 0 from ?_)
          exact g_vret B E dX3_removes_206 (⟨l8_1, l151_2, rfl, rfl, hr_3, hr_2⟩)
        · skip
          have c155 := Classical.not_not.mp c155
          have hE9 := EpP.b hl151_2
          have hB1 : TrB T1 := hE9.2.1
          have hd5 := hB1.1
          have hp3 := p2_4 hB1.1
          have hph := pw_h (show 0 < T1.1 from c155.1)
          have hpp := Nat.two_pow_pos (T1.1 - 1)
          have hpw9 : 2 ^ (eTr ((eNo r, T1, eGo r, eKy r, eCh r, eWy r, S.2.1, ePk r) : MeS)).1 = 2 ^ T1.1 := rfl
          refine g_aload_n (q := 159) B dX3_removes_158 rfl rfl (rv_r _) ?_
          obtain ⟨ap_4, an_4, al_4, ac_4, aw_4, am_4, ak_4, fp_4, fn_4, fl_4, fc_4, fw_4, fm_4, fk_4, hE_4, hfp_4, hfn_4, hfl_4, hfc_4, hfw_4, hfm_4, hfk_4, hc_4_0, hc_4_1, hc_4_2, hc_4_3, hc_4_4, hc_4_5, hc_4_6, hc_4_7⟩ := EpP.at (Sub.self hl151_2)
          refine g_getNM (q := 162) B (ci := 16) (k := 3) (j := 1) in_X13 rfl dX3_removes_159 rfl rfl (hc_4_0) (Nat.le_of_ble_eq_true rfl) q3257 rfl rfl ?_
          refine g_iconst (v := nI 1) (q := 163) B dX3_removes_162 rfl (by decide) ?_
          refine g_isub (v := nI (2 ^ T1.1 - 1)) (q := 164) B dX3_removes_163 rfl (pk_sub (by omega)) ?_
          refine g_istore_n (q := 165) (lv2 := [some (.ref m), some (.ref e), some (.int (nI (2 ^ T1.1 - 1))), none, none, none, none]) B dX3_removes_164 rfl (Nat.le_of_ble_eq_true rfl) rfl ?_
          have lp165 : ∀ (n165 : Nat) (ii : Nat) (l165_3 : va_W), EpP g e ((eNo r, (blkF T1 (inK T1.1 ii)), eGo r, eKy r, eCh r, eWy r, S.2.1, ePk r) : MeS) l165_3 → (ii ≤ 2 ^ T1.1) → 2 ^ T1.1 - ii = n165 → Go g κ 165 [some (.ref m), some (.ref e), some (.int (nI (2 ^ T1.1 - 1 + ii))), none, none, none, none] [] [[(m, .inr (12, [.ref ls, .ref lb, .ref lk, .ref lp, .ref lr, .ref le, .ref lm, .ref lo, .int (nI th), .int z, .int (nI bo), .int (nI cm)]))], l8_1, w1, l165_3] 0 0 := by
            intro n165
            induction n165 using Nat.strongRecOn with
            | _ n165 ih165 =>
            intro ii l165_3 hl165_3 hi hmu165
            refine g_iload_n (q := 166) B dX3_removes_165 rfl rfl ?_
            refine g_aload_n (q := 167) B dX3_removes_166 rfl rfl (rv_r _) ?_
            refine g_callV (q := 170) (is := [3]) (kc2 := 0) (ks2 := 0) B [] (ct_X13_nodes g J (e := e) (r := ((eNo r, (blkF T1 (inK T1.1 ii)), eGo r, eKy r, eCh r, eWy r, S.2.1, ePk r) : MeS)) hl165_3 ) dX3_removes_167 rfl (rc_in B (ci := 16) rfl (k := 3) rfl (EpP.hm hl165_3)) rfl q3434 q3435 q3436 q137 q3437 rfl rfl moX13_nodes rfl rfl (by decide) (by decide) (Nat.le_of_ble_eq_true rfl) (Nat.le_of_ble_eq_true rfl) (Nat.le_of_ble_eq_true rfl) (fun _ _ hx => noX_x hx) (fun v167 L1 hp167 => ?_)
            obtain ⟨rfl, rfl⟩ := hp167
            refine (show Go g κ 170 [some (.ref m), some (.ref e), some (.int (nI (2 ^ T1.1 - 1 + ii))), none, none, none, none] [.int (nI (2 * 2 ^ (eTr ((eNo r, (blkF T1 (inK T1.1 ii)), eGo r, eKy r, eCh r, eWy r, S.2.1, ePk r) : MeS)).1 - 1)), .int (nI (2 ^ T1.1 - 1 + ii))] [[(m, .inr (12, [.ref ls, .ref lb, .ref lk, .ref lp, .ref lr, .ref le, .ref lm, .ref lo, .int (nI th), .int z, .int (nI bo), .int (nI cm)]))], l8_1, w1, l165_3] 0 0 from ?_)
            refine (show Go g κ 170 [some (.ref m), some (.ref e), some (.int (nI (2 ^ T1.1 - 1 + ii))), none, none, none, none] [.int (nI (2 * 2 ^ T1.1 - 1)), .int (nI (2 ^ T1.1 - 1 + ii))] [[(m, .inr (12, [.ref ls, .ref lb, .ref lk, .ref lp, .ref lr, .ref le, .ref lm, .ref lo, .int (nI th), .int z, .int (nI bo), .int (nI cm)]))], l8_1, w1, l165_3] 0 0 from ?_)
            refine g_icmp_ge (tgt := 193) (q := 173) B dX3_removes_170 rfl (by decide) (nI_leI (by omega) (by omega)) (fun c170 => ?_) (fun c170 => ?_)
            · skip
              have hr_5 : EpP g e ((eNo r, (blkF T1 (inH T1.1)), eGo r, eKy r, eCh r, eWy r, S.2.1, ePk r) : MeS) l165_3 := by rw [← inK_e (by omega), show 2 ^ T1.1 = ii by omega]; have z := hl165_3; rw [show ii = 2 ^ T1.1 by omega] at z ⊢; exact z
              obtain ⟨ap_h, an_h, al_h, ac_h, aw_h, am_h, ak_h, fp_h, fn_h, fl_h, fc_h, fw_h, fm_h, fk_h, hE_h, hfp_h, hfn_h, hfl_h, hfc_h, hfw_h, hfm_h, hfk_h, rfl⟩ := hr_5
              refine g_open 3 rfl rfl rfl ?_
              refine (show Go g κ 193 [some (.ref m), some (.ref e), some (.int (nI (2 ^ T1.1 - 1 + ii))), none, none, none, none] [] [[(m, .inr (12, [.ref ls, .ref lb, .ref lk, .ref lp, .ref lr, .ref le, .ref lm, .ref lo, .int (nI th), .int z, .int (nI bo), .int (nI cm)]))], l8_1, w1, [(e, .inr (16, [.int (nI (eNo ((eNo r, (blkF T1 (inH T1.1)), eGo r, eKy r, eCh r, eWy r, S.2.1, ePk r) : MeS))), .int (nI (2 ^ (eTr ((eNo r, (blkF T1 (inH T1.1)), eGo r, eKy r, eCh r, eWy r, S.2.1, ePk r) : MeS)).1)), .int (nI (eGo ((eNo r, (blkF T1 (inH T1.1)), eGo r, eKy r, eCh r, eWy r, S.2.1, ePk r) : MeS))), .int (nI (eKy ((eNo r, (blkF T1 (inH T1.1)), eGo r, eKy r, eCh r, eWy r, S.2.1, ePk r) : MeS))), .ref ap_h, .ref an_h, .ref al_h, .ref ac_h, .ref aw_h, .ref am_h, .ref ak_h]))], [(ap_h, .inl (g.2.1 0, 16, .inl fp_h))], [(an_h, .inl (g.2.1 0, 31, .inl fn_h))], [(al_h, .inl (g.2.1 0, 31, .inl fl_h))], [(ac_h, .inl (g.2.1 0, 16, .inl fc_h))], [(aw_h, .inl (g.2.1 4, 31, .inl fw_h))], [(am_h, .inl (g.2.1 4, 16, .inl fm_h))], [(ak_h, .inl (g.2.1 0, 16, .inl fk_h))]] 0 0 from ?_)
              have hpw7 : 2 ^ (eTr ((eNo r, (blkF T1 (inH T1.1)), eGo r, eKy r, eCh r, eWy r, S.2.1, ePk r) : MeS)).1 = 2 ^ T1.1 := rfl
              have hpd7 : (eTr ((eNo r, (blkF T1 (inH T1.1)), eGo r, eKy r, eCh r, eWy r, S.2.1, ePk r) : MeS)).1 = T1.1 := rfl
              refine g_aload_n (q := 194) B dX3_removes_193 rfl rfl (rv_r _) ?_
              refine g_dup (q := 195) B dX3_removes_194 rfl rfl ?_
              refine g_getN (q := 198) B (ci := 16) (k := 3) (j := 1) in_X13 rfl dX3_removes_195 rfl rfl (Nat.le_of_ble_eq_true rfl) q3257 rfl rfl ?_
              refine g_iconst (v := nI 2) (q := 199) B dX3_removes_198 rfl (by decide) ?_
              refine g_idiv (v := nI (2 ^ (T1.1 - 1))) (q := 200) B dX3_removes_199 rfl (by decide) (by rw [dv2_I _ (by omega)]; congr 1; omega) ?_
              refine g_putN (q := 203) (L2 := [[(m, .inr (12, [.ref ls, .ref lb, .ref lk, .ref lp, .ref lr, .ref le, .ref lm, .ref lo, .int (nI th), .int z, .int (nI bo), .int (nI cm)]))], l8_1, w1, [(e, .inr (16, [.int (nI (eNo ((eNo r, (blkF T1 (inH T1.1)), eGo r, eKy r, eCh r, eWy r, S.2.1, ePk r) : MeS))), .int (nI (2 ^ (T1.1 - 1))), .int (nI (eGo ((eNo r, (blkF T1 (inH T1.1)), eGo r, eKy r, eCh r, eWy r, S.2.1, ePk r) : MeS))), .int (nI (eKy ((eNo r, (blkF T1 (inH T1.1)), eGo r, eKy r, eCh r, eWy r, S.2.1, ePk r) : MeS))), .ref ap_h, .ref an_h, .ref al_h, .ref ac_h, .ref aw_h, .ref am_h, .ref ak_h]))], [(ap_h, .inl (g.2.1 0, 16, .inl fp_h))], [(an_h, .inl (g.2.1 0, 31, .inl fn_h))], [(al_h, .inl (g.2.1 0, 31, .inl fl_h))], [(ac_h, .inl (g.2.1 0, 16, .inl fc_h))], [(aw_h, .inl (g.2.1 4, 31, .inl fw_h))], [(am_h, .inl (g.2.1 4, 16, .inl fm_h))], [(ak_h, .inl (g.2.1 0, 16, .inl fk_h))]]) B (ci := 16) (k := 3) (j := 1) in_X13 tyX13 tyX13_ok nmX13 rfl dX3_removes_200 rfl rfl (Nat.le_of_ble_eq_true rfl) q3257 rfl rfl rfl rfl (Nat.le_of_ble_eq_true rfl) rfl ?_
              obtain ⟨wc_6, ewc_6⟩ : ∃ w : va_W, w = ([[(e, .inr (16, [.int (nI (eNo ((eNo r, (blkF T1 (inH T1.1)), eGo r, eKy r, eCh r, eWy r, S.2.1, ePk r) : MeS))), .int (nI (2 ^ (T1.1 - 1))), .int (nI (eGo ((eNo r, (blkF T1 (inH T1.1)), eGo r, eKy r, eCh r, eWy r, S.2.1, ePk r) : MeS))), .int (nI (eKy ((eNo r, (blkF T1 (inH T1.1)), eGo r, eKy r, eCh r, eWy r, S.2.1, ePk r) : MeS))), .ref ap_h, .ref an_h, .ref al_h, .ref ac_h, .ref aw_h, .ref am_h, .ref ak_h]))], [(ap_h, .inl (g.2.1 0, 16, .inl fp_h))], [(an_h, .inl (g.2.1 0, 31, .inl fn_h))], [(al_h, .inl (g.2.1 0, 31, .inl fl_h))], [(ac_h, .inl (g.2.1 0, 16, .inl fc_h))], [(aw_h, .inl (g.2.1 4, 31, .inl fw_h))], [(am_h, .inl (g.2.1 4, 16, .inl fm_h))], [(ak_h, .inl (g.2.1 0, 16, .inl fk_h))]] : List va_W).flatten := ⟨_, rfl⟩
              have hwc_6 : EpP g e ((eNo r, (halfT T1), eGo r, eKy r, eCh r, eWy r, S.2.1, ePk r) : MeS) wc_6 := by
                rw [ewc_6]
                exact ⟨ap_h, an_h, al_h, ac_h, aw_h, am_h, ak_h, fp_h, fn_h, fl_h, fc_h, fw_h, fm_h, fk_h, (MeB.tr (r := ((eNo r, (blkF T1 (inH T1.1)), eGo r, eKy r, eCh r, eWy r, S.2.1, ePk r) : MeS)) hE_h (TrB.d hE_h.2.1 (T1.1 - 1) (by omega))), hfp_h, hfn_h, hfl_h, hfc_h, hfw_h, hfm_h, hfk_h, rfl⟩
              refine g_close (w := wc_6) [3, 3, 3, 3, 3, 3, 3, 3] rfl ewc_6 rfl ?_
              refine (show Go g κ 203 [some (.ref m), some (.ref e), some (.int (nI (2 ^ T1.1 - 1 + ii))), none, none, none, none] [] [[(m, .inr (12, [.ref ls, .ref lb, .ref lk, .ref lp, .ref lr, .ref le, .ref lm, .ref lo, .int (nI th), .int z, .int (nI bo), .int (nI cm)]))], l8_1, w1, wc_6] 0 0 from ?_)
              refine g_goto (tgt := 151) B dX3_removes_203 (by decide) ?_
              refine g_fg 2 rfl ?_
              refine g_pk [0, 0, 1, 0] rfl rfl ?_
              refine (show Go g κ 151 [some (.ref m), some (.ref e), none, none, none, none, none] [] [[(m, .inr (12, [.ref ls, .ref lb, .ref lk, .ref lp, .ref lr, .ref le, .ref lm, .ref lo, .int (nI th), .int z, .int (nI bo), .int (nI cm)]))], l8_1, wc_6, w1] 0 0 from ?_)
              exact ih151 _ (by rw [← hmu151]; show T1.1 - 1 < T1.1; have z9 : 0 < T1.1 := c155.1; omega) (halfT T1) wc_6 hwc_6 (by rw [← hT1]; exact (hlvF_y c155.1 c155.2).symm) (PN.half hP1 c155.1 hd5 c155.2) rfl
            · skip
              obtain ⟨ap_w, an_w, al_w, ac_w, aw_w, am_w, ak_w, fp_w, fn_w, fl_w, fc_w, fw_w, fm_w, fk_w, hE_w, hfp_w, hfn_w, hfl_w, hfc_w, hfw_w, hfm_w, hfk_w, rfl⟩ := hl165_3
              refine g_open 3 rfl rfl rfl ?_
              refine (show Go g κ 173 [some (.ref m), some (.ref e), some (.int (nI (2 ^ T1.1 - 1 + ii))), none, none, none, none] [] [[(m, .inr (12, [.ref ls, .ref lb, .ref lk, .ref lp, .ref lr, .ref le, .ref lm, .ref lo, .int (nI th), .int z, .int (nI bo), .int (nI cm)]))], l8_1, w1, [(e, .inr (16, [.int (nI (eNo ((eNo r, (blkF T1 (inK T1.1 ii)), eGo r, eKy r, eCh r, eWy r, S.2.1, ePk r) : MeS))), .int (nI (2 ^ (eTr ((eNo r, (blkF T1 (inK T1.1 ii)), eGo r, eKy r, eCh r, eWy r, S.2.1, ePk r) : MeS)).1)), .int (nI (eGo ((eNo r, (blkF T1 (inK T1.1 ii)), eGo r, eKy r, eCh r, eWy r, S.2.1, ePk r) : MeS))), .int (nI (eKy ((eNo r, (blkF T1 (inK T1.1 ii)), eGo r, eKy r, eCh r, eWy r, S.2.1, ePk r) : MeS))), .ref ap_w, .ref an_w, .ref al_w, .ref ac_w, .ref aw_w, .ref am_w, .ref ak_w]))], [(ap_w, .inl (g.2.1 0, 16, .inl fp_w))], [(an_w, .inl (g.2.1 0, 31, .inl fn_w))], [(al_w, .inl (g.2.1 0, 31, .inl fl_w))], [(ac_w, .inl (g.2.1 0, 16, .inl fc_w))], [(aw_w, .inl (g.2.1 4, 31, .inl fw_w))], [(am_w, .inl (g.2.1 4, 16, .inl fm_w))], [(ak_w, .inl (g.2.1 0, 16, .inl fk_w))]] 0 0 from ?_)
              have hpw8 : 2 ^ (eTr ((eNo r, (blkF T1 (inK T1.1 ii)), eGo r, eKy r, eCh r, eWy r, S.2.1, ePk r) : MeS)).1 = 2 ^ T1.1 := rfl
              refine g_aload_n (q := 174) B dX3_removes_173 rfl rfl (rv_r _) ?_
              refine g_getN (q := 177) B (ci := 16) (k := 3) (j := 5) in_X13 rfl dX3_removes_174 rfl rfl (Nat.le_of_ble_eq_true rfl) q3263 rfl rfl ?_
              refine g_iload_n (q := 178) B dX3_removes_177 rfl rfl ?_
              refine g_iconst (v := -1) (q := 179) B dX3_removes_178 rfl (by decide) ?_
              refine g_iast (q := 180) (L2 := [[(m, .inr (12, [.ref ls, .ref lb, .ref lk, .ref lp, .ref lr, .ref le, .ref lm, .ref lo, .int (nI th), .int z, .int (nI bo), .int (nI cm)]))], l8_1, w1, [(e, .inr (16, [.int (nI (eNo ((eNo r, (blkF T1 (inK T1.1 ii)), eGo r, eKy r, eCh r, eWy r, S.2.1, ePk r) : MeS))), .int (nI (2 ^ (eTr ((eNo r, (blkF T1 (inK T1.1 ii)), eGo r, eKy r, eCh r, eWy r, S.2.1, ePk r) : MeS)).1)), .int (nI (eGo ((eNo r, (blkF T1 (inK T1.1 ii)), eGo r, eKy r, eCh r, eWy r, S.2.1, ePk r) : MeS))), .int (nI (eKy ((eNo r, (blkF T1 (inK T1.1 ii)), eGo r, eKy r, eCh r, eWy r, S.2.1, ePk r) : MeS))), .ref ap_w, .ref an_w, .ref al_w, .ref ac_w, .ref aw_w, .ref am_w, .ref ak_w]))], [(ap_w, .inl (g.2.1 0, 16, .inl fp_w))], [(an_w, .inl (g.2.1 0, 31, .inl (upd fn_w (2 ^ T1.1 - 1 + ii) (-1))))], [(al_w, .inl (g.2.1 0, 31, .inl fl_w))], [(ac_w, .inl (g.2.1 0, 16, .inl fc_w))], [(aw_w, .inl (g.2.1 4, 31, .inl fw_w))], [(am_w, .inl (g.2.1 4, 16, .inl fm_w))], [(ak_w, .inl (g.2.1 0, 16, .inl fk_w))]]) B (k := 5) dX3_removes_179 rfl rfl (vp_in_nI (by omega) (by omega)) (by rw [nI_clamp (by omega)] <;> rfl) ?_
              obtain ⟨f179, ef179⟩ : ∃ f : Nat → Int32, f = upd fn_w (2 ^ T1.1 - 1 + ii) (-1) := ⟨_, rfl⟩
              have hf179 : ∀ i, i < 31 → f179 i = oI (fup ((eTr ((eNo r, (blkF T1 (inK T1.1 ii)), eGo r, eKy r, eCh r, eWy r, S.2.1, ePk r) : MeS)).2.1) (2 ^ T1.1 - 1 + ii) none i) := by rw [ef179]; exact upd_oI hfn_w _ none
              rw [← ef179]
              refine (show Go g κ 180 [some (.ref m), some (.ref e), some (.int (nI (2 ^ T1.1 - 1 + ii))), none, none, none, none] [] [[(m, .inr (12, [.ref ls, .ref lb, .ref lk, .ref lp, .ref lr, .ref le, .ref lm, .ref lo, .int (nI th), .int z, .int (nI bo), .int (nI cm)]))], l8_1, w1, [(e, .inr (16, [.int (nI (eNo ((eNo r, (blkF T1 (inK T1.1 ii)), eGo r, eKy r, eCh r, eWy r, S.2.1, ePk r) : MeS))), .int (nI (2 ^ (eTr ((eNo r, (blkF T1 (inK T1.1 ii)), eGo r, eKy r, eCh r, eWy r, S.2.1, ePk r) : MeS)).1)), .int (nI (eGo ((eNo r, (blkF T1 (inK T1.1 ii)), eGo r, eKy r, eCh r, eWy r, S.2.1, ePk r) : MeS))), .int (nI (eKy ((eNo r, (blkF T1 (inK T1.1 ii)), eGo r, eKy r, eCh r, eWy r, S.2.1, ePk r) : MeS))), .ref ap_w, .ref an_w, .ref al_w, .ref ac_w, .ref aw_w, .ref am_w, .ref ak_w]))], [(ap_w, .inl (g.2.1 0, 16, .inl fp_w))], [(an_w, .inl (g.2.1 0, 31, .inl f179))], [(al_w, .inl (g.2.1 0, 31, .inl fl_w))], [(ac_w, .inl (g.2.1 0, 16, .inl fc_w))], [(aw_w, .inl (g.2.1 4, 31, .inl fw_w))], [(am_w, .inl (g.2.1 4, 16, .inl fm_w))], [(ak_w, .inl (g.2.1 0, 16, .inl fk_w))]] 0 0 from ?_)
              refine g_aload_n (q := 181) B dX3_removes_180 rfl rfl (rv_r _) ?_
              refine g_getN (q := 184) B (ci := 16) (k := 3) (j := 6) in_X13 rfl dX3_removes_181 rfl rfl (Nat.le_of_ble_eq_true rfl) q3265 rfl rfl ?_
              refine g_iload_n (q := 185) B dX3_removes_184 rfl rfl ?_
              refine g_iconst (v := nI 0) (q := 186) B dX3_removes_185 rfl (by decide) ?_
              refine g_iast (q := 187) (L2 := [[(m, .inr (12, [.ref ls, .ref lb, .ref lk, .ref lp, .ref lr, .ref le, .ref lm, .ref lo, .int (nI th), .int z, .int (nI bo), .int (nI cm)]))], l8_1, w1, [(e, .inr (16, [.int (nI (eNo ((eNo r, (blkF T1 (inK T1.1 ii)), eGo r, eKy r, eCh r, eWy r, S.2.1, ePk r) : MeS))), .int (nI (2 ^ (eTr ((eNo r, (blkF T1 (inK T1.1 ii)), eGo r, eKy r, eCh r, eWy r, S.2.1, ePk r) : MeS)).1)), .int (nI (eGo ((eNo r, (blkF T1 (inK T1.1 ii)), eGo r, eKy r, eCh r, eWy r, S.2.1, ePk r) : MeS))), .int (nI (eKy ((eNo r, (blkF T1 (inK T1.1 ii)), eGo r, eKy r, eCh r, eWy r, S.2.1, ePk r) : MeS))), .ref ap_w, .ref an_w, .ref al_w, .ref ac_w, .ref aw_w, .ref am_w, .ref ak_w]))], [(ap_w, .inl (g.2.1 0, 16, .inl fp_w))], [(an_w, .inl (g.2.1 0, 31, .inl f179))], [(al_w, .inl (g.2.1 0, 31, .inl (upd fl_w (2 ^ T1.1 - 1 + ii) (nI 0))))], [(ac_w, .inl (g.2.1 0, 16, .inl fc_w))], [(aw_w, .inl (g.2.1 4, 31, .inl fw_w))], [(am_w, .inl (g.2.1 4, 16, .inl fm_w))], [(ak_w, .inl (g.2.1 0, 16, .inl fk_w))]]) B (k := 6) dX3_removes_186 rfl rfl (vp_in_nI (by omega) (by omega)) (by rw [nI_clamp (by omega)] <;> rfl) ?_
              obtain ⟨f186, ef186⟩ : ∃ f : Nat → Int32, f = upd fl_w (2 ^ T1.1 - 1 + ii) (nI 0) := ⟨_, rfl⟩
              have hf186 : ∀ i, i < 31 → f186 i = nI (fup ((eTr ((eNo r, (blkF T1 (inK T1.1 ii)), eGo r, eKy r, eCh r, eWy r, S.2.1, ePk r) : MeS)).2.2.1) (2 ^ T1.1 - 1 + ii) 0 i) := by rw [ef186]; exact upd_nI hfl_w _ 0
              rw [← ef186]
              refine (show Go g κ 187 [some (.ref m), some (.ref e), some (.int (nI (2 ^ T1.1 - 1 + ii))), none, none, none, none] [] [[(m, .inr (12, [.ref ls, .ref lb, .ref lk, .ref lp, .ref lr, .ref le, .ref lm, .ref lo, .int (nI th), .int z, .int (nI bo), .int (nI cm)]))], l8_1, w1, [(e, .inr (16, [.int (nI (eNo ((eNo r, (blkF T1 (inK T1.1 ii)), eGo r, eKy r, eCh r, eWy r, S.2.1, ePk r) : MeS))), .int (nI (2 ^ (eTr ((eNo r, (blkF T1 (inK T1.1 ii)), eGo r, eKy r, eCh r, eWy r, S.2.1, ePk r) : MeS)).1)), .int (nI (eGo ((eNo r, (blkF T1 (inK T1.1 ii)), eGo r, eKy r, eCh r, eWy r, S.2.1, ePk r) : MeS))), .int (nI (eKy ((eNo r, (blkF T1 (inK T1.1 ii)), eGo r, eKy r, eCh r, eWy r, S.2.1, ePk r) : MeS))), .ref ap_w, .ref an_w, .ref al_w, .ref ac_w, .ref aw_w, .ref am_w, .ref ak_w]))], [(ap_w, .inl (g.2.1 0, 16, .inl fp_w))], [(an_w, .inl (g.2.1 0, 31, .inl f179))], [(al_w, .inl (g.2.1 0, 31, .inl f186))], [(ac_w, .inl (g.2.1 0, 16, .inl fc_w))], [(aw_w, .inl (g.2.1 4, 31, .inl fw_w))], [(am_w, .inl (g.2.1 4, 16, .inl fm_w))], [(ak_w, .inl (g.2.1 0, 16, .inl fk_w))]] 0 0 from ?_)
              obtain ⟨wc_7, ewc_7⟩ : ∃ w : va_W, w = ([[(e, .inr (16, [.int (nI (eNo ((eNo r, (blkF T1 (inK T1.1 ii)), eGo r, eKy r, eCh r, eWy r, S.2.1, ePk r) : MeS))), .int (nI (2 ^ (eTr ((eNo r, (blkF T1 (inK T1.1 ii)), eGo r, eKy r, eCh r, eWy r, S.2.1, ePk r) : MeS)).1)), .int (nI (eGo ((eNo r, (blkF T1 (inK T1.1 ii)), eGo r, eKy r, eCh r, eWy r, S.2.1, ePk r) : MeS))), .int (nI (eKy ((eNo r, (blkF T1 (inK T1.1 ii)), eGo r, eKy r, eCh r, eWy r, S.2.1, ePk r) : MeS))), .ref ap_w, .ref an_w, .ref al_w, .ref ac_w, .ref aw_w, .ref am_w, .ref ak_w]))], [(ap_w, .inl (g.2.1 0, 16, .inl fp_w))], [(an_w, .inl (g.2.1 0, 31, .inl f179))], [(al_w, .inl (g.2.1 0, 31, .inl f186))], [(ac_w, .inl (g.2.1 0, 16, .inl fc_w))], [(aw_w, .inl (g.2.1 4, 31, .inl fw_w))], [(am_w, .inl (g.2.1 4, 16, .inl fm_w))], [(ak_w, .inl (g.2.1 0, 16, .inl fk_w))]] : List va_W).flatten := ⟨_, rfl⟩
              have hwc_7 : EpP g e ((eNo r, (blkN (blkF T1 (inK T1.1 ii)) (2 ^ T1.1 - 1 + ii)), eGo r, eKy r, eCh r, eWy r, S.2.1, ePk r) : MeS) wc_7 := by
                rw [ewc_7]
                exact ⟨ap_w, an_w, al_w, ac_w, aw_w, am_w, ak_w, fp_w, f179, f186, fc_w, fw_w, fm_w, fk_w, (MeB.tr (r := ((eNo r, (blkF T1 (inK T1.1 ii)), eGo r, eKy r, eCh r, eWy r, S.2.1, ePk r) : MeS)) hE_w (TrB.blkN hE_w.2.1 _)), hfp_w, hf179, hf186, hfc_w, hfw_w, hfm_w, hfk_w, rfl⟩
              refine g_close (w := wc_7) [3, 3, 3, 3, 3, 3, 3, 3] rfl ewc_7 rfl ?_
              refine (show Go g κ 187 [some (.ref m), some (.ref e), some (.int (nI (2 ^ T1.1 - 1 + ii))), none, none, none, none] [] [[(m, .inr (12, [.ref ls, .ref lb, .ref lk, .ref lp, .ref lr, .ref le, .ref lm, .ref lo, .int (nI th), .int z, .int (nI bo), .int (nI cm)]))], l8_1, w1, wc_7] 0 0 from ?_)
              have hr_8 : EpP g e ((eNo r, (blkF T1 (inK T1.1 (ii + 1))), eGo r, eKy r, eCh r, eWy r, S.2.1, ePk r) : MeS) wc_7 := by rw [← blkF_s T1 (inK_s T1.1 ii)]; exact hwc_7
              refine g_iinc (v := nI ((2 ^ T1.1 - 1 + ii) + 1)) (q := 190) (lv2 := [some (.ref m), some (.ref e), some (.int (nI ((2 ^ T1.1 - 1 + ii) + 1))), none, none, none, none]) B dX3_removes_187 rfl rfl (nI_add _ 1) (Nat.le_of_ble_eq_true rfl) rfl ?_
              refine g_goto (tgt := 165) B dX3_removes_190 (by decide) ?_
              exact ih165 _ (by omega) (ii + 1) wc_7 hr_8 (by omega) rfl
          have hr_9 : EpP g e ((eNo r, (blkF T1 (inK T1.1 0)), eGo r, eKy r, eCh r, eWy r, S.2.1, ePk r) : MeS) l151_2 := by rw [blkF_0 T1 (inK_0 T1.1)]; exact hl151_2
          exact lp165 _ 0 l151_2 hr_9 (Nat.zero_le _) rfl
      refine g_fg 2 rfl ?_
      refine g_pk [0, 0, 0, 1] rfl rfl ?_
      refine (show Go g κ 151 [some (.ref m), some (.ref e), none, none, none, none, none] [] [[(m, .inr (12, [.ref ls, .ref lb, .ref lk, .ref lp, .ref lr, .ref le, .ref lm, .ref lo, .int (nI th), .int z, .int (nI bo), .int (nI cm)]))], l8_1, l8_2, w1] (Rs.length - k) (4 * (Rs.length - k)) from ?_)
      refine g_room (kc2 := 0) (ks2 := 0) (by omega) (by omega) ?_
      exact lp151 _ S.1 l8_2 hl8_2 (rfl) (hPN) rfl
    · skip
      have c14 := Classical.not_not.mp c14
      refine g_aload_n (q := 18) B dX3_removes_17 rfl rfl (rv_r _) ?_
      obtain ⟨r18, hr18⟩ := get_ex (xs := Rs) (i := k) (by omega)
      obtain ⟨x18, hx18⟩ := get_ex (xs := ps_1) (i := k) (by have := get_lt2 hr18; have := hln_1.1; omega)
      have hE_10 := hel_1 _ _ _ hx18 hr18
      refine g_callF (q := 23) (is := [3, 3]) (kc2 := Rs.length - k) (ks2 := 4 * (Rs.length - k)) B [] (ct_J19_next_s g J (p := lr) (xs := ps_1) (md := md_1) (cap := rcap) (it := it4) (c := k) (lr := lrt) (x := x18) (W1 := w1)  (hli_1) (hx18)) dX3_removes_18 rfl (ci := 22) rfl (rc_at B (ci := 22) rfl (k := 3) rfl) q3236 q967 q969 q104 q971 q966 q965 q970 q968 q939 rfl rfl mojava_util_Iterator_next___Ljava_lang_Object_ rfl rfl (by decide) (by decide) (Nat.le_of_ble_eq_true rfl) (by omega) (by omega) (fun _ _ hx => noX_x hx) (fun v18 L1 hp18 => ?_)
      obtain ⟨rfl, rfl⟩ := hp18
      refine (show Go g κ 23 [some (.ref m), some (.ref e), some (.ref it4), none, none, none, none] [.ref x18] [[(m, .inr (12, [.ref ls, .ref lb, .ref lk, .ref lp, .ref lr, .ref le, .ref lm, .ref lo, .int (nI th), .int z, .int (nI bo), .int (nI cm)]))], l8_1, l8_2, [(it4, .inr (22, [.int (nI (k + 1)), .int (nI k), .int md_1, .ref lr]))], w1] (Rs.length - k) (4 * (Rs.length - k)) from ?_)
      refine g_castRS (ci := 18) (q := 26) B rfl (rc_in B (ci := 18) rfl (k := 4) rfl (Sub.hm (hE_10) fun _ z => MrP.hm z)) dX3_removes_23 rfl q3382 ?_
      refine g_astore_n (q := 27) (lv2 := [some (.ref m), some (.ref e), some (.ref it4), some (.ref x18), none, none, none]) B dX3_removes_26 rfl (Nat.le_of_ble_eq_true rfl) (rv_r _) rfl ?_
      have hRq := hRb _ (List.mem_of_getElem? hr18)
      refine g_aload_n (q := 28) B dX3_removes_27 rfl rfl (rv_r _) ?_
      have hc_11_0 := MrP.at (hE_10)
      refine g_getNM (q := 31) B (ci := 18) (k := 4) (j := 0) in_X17 rfl dX3_removes_28 rfl rfl (hc_11_0) (Nat.le_of_ble_eq_true rfl) q3393 rfl rfl ?_
      refine g_bipush (v := nI 114) (q := 33) B dX3_removes_31 rfl (by decide) ?_
      refine g_icmp_eq (tgt := 39) (q := 36) B dX3_removes_33 rfl (by decide) (nI_eq (by omega) (by omega)) (fun c33 => ?_) (fun c33 => ?_)
      · skip
        obtain ⟨hl18, pp, hpp0⟩ := hrm k r18 hr18 c33
        have hpp : S.1.2.2.2 r18.2.2 = some pp := by rw [hS]; exact hpp0
        obtain ⟨hi1, hi2, hi3⟩ := rmM_i Rs ((eTr r, eRm r, Ks) : RnS) hL0 k hk
        rw [← hS] at hi1 hi2 hi3
        have hi2 : S.1.1 = (eTr r).1 := hi2
        have hi3 : S.2.2.length = Ks.length := hi3
        obtain ⟨ap_o, an_o, al_o, ac_o, aw_o, am_o, ak_o, fp_o, fn_o, fl_o, fc_o, fw_o, fm_o, fk_o, hE_o, hfp_o, hfn_o, hfl_o, hfc_o, hfw_o, hfm_o, hfk_o, rfl⟩ := hl8_2
        refine g_open 2 rfl rfl rfl ?_
        refine (show Go g κ 39 [some (.ref m), some (.ref e), some (.ref it4), some (.ref x18), none, none, none] [] [[(m, .inr (12, [.ref ls, .ref lb, .ref lk, .ref lp, .ref lr, .ref le, .ref lm, .ref lo, .int (nI th), .int z, .int (nI bo), .int (nI cm)]))], l8_1, [(it4, .inr (22, [.int (nI (k + 1)), .int (nI k), .int md_1, .ref lr]))], w1, [(e, .inr (16, [.int (nI (eNo ((eNo r, S.1, eGo r, eKy r, eCh r, eWy r, S.2.1, ePk r) : MeS))), .int (nI (2 ^ (eTr ((eNo r, S.1, eGo r, eKy r, eCh r, eWy r, S.2.1, ePk r) : MeS)).1)), .int (nI (eGo ((eNo r, S.1, eGo r, eKy r, eCh r, eWy r, S.2.1, ePk r) : MeS))), .int (nI (eKy ((eNo r, S.1, eGo r, eKy r, eCh r, eWy r, S.2.1, ePk r) : MeS))), .ref ap_o, .ref an_o, .ref al_o, .ref ac_o, .ref aw_o, .ref am_o, .ref ak_o]))], [(ap_o, .inl (g.2.1 0, 16, .inl fp_o))], [(an_o, .inl (g.2.1 0, 31, .inl fn_o))], [(al_o, .inl (g.2.1 0, 31, .inl fl_o))], [(ac_o, .inl (g.2.1 0, 16, .inl fc_o))], [(aw_o, .inl (g.2.1 4, 31, .inl fw_o))], [(am_o, .inl (g.2.1 4, 16, .inl fm_o))], [(ak_o, .inl (g.2.1 0, 16, .inl fk_o))]] (Rs.length - k) (4 * (Rs.length - k)) from ?_)
        have hppb := hE_o.2.1.2.2.2 _ _ hpp
        refine g_aload_n (q := 40) B dX3_removes_39 rfl rfl (rv_r _) ?_
        refine g_getN (q := 43) B (ci := 16) (k := 4) (j := 4) in_X13 rfl dX3_removes_40 rfl rfl (Nat.le_of_ble_eq_true rfl) q3261 rfl rfl ?_
        refine g_aload_n (q := 44) B dX3_removes_43 rfl rfl (rv_r _) ?_
        refine g_getNM (q := 47) B (ci := 18) (k := 3) (j := 2) in_X17 rfl dX3_removes_44 rfl rfl (hc_11_0) (Nat.le_of_ble_eq_true rfl) q3397 rfl rfl ?_
        refine g_iald (v := oI (((eTr ((eNo r, S.1, eGo r, eKy r, eCh r, eWy r, S.2.1, ePk r) : MeS)).2.2.2) r18.2.2)) (q := 48) B (k := 5) dX3_removes_47 rfl rfl (vp_in_nI (by omega) (by omega)) (by rw [nI_clamp (by omega)]; exact hfp_o _ (by omega)) ?_
        have hq48 : ((eTr ((eNo r, S.1, eGo r, eKy r, eCh r, eWy r, S.2.1, ePk r) : MeS)).2.2.2) r18.2.2 = some pp := hpp
        refine g_stk (y := .int (nI pp)) (by rw [hq48]; rfl) ?_
        refine g_istore (q := 50) (lv2 := [some (.ref m), some (.ref e), some (.ref it4), some (.ref x18), some (.int (nI pp)), none, none]) B dX3_removes_48 rfl (Nat.le_of_ble_eq_true rfl) rfl ?_
        refine g_aload_n (q := 51) B dX3_removes_50 rfl rfl (rv_r _) ?_
        refine g_getN (q := 54) B (ci := 16) (k := 4) (j := 9) in_X13 rfl dX3_removes_51 rfl rfl (Nat.le_of_ble_eq_true rfl) q3271 rfl rfl ?_
        refine g_aload_n (q := 55) B dX3_removes_54 rfl rfl (rv_r _) ?_
        refine g_getNM (q := 58) B (ci := 18) (k := 3) (j := 2) in_X17 rfl dX3_removes_55 rfl rfl (hc_11_0) (Nat.le_of_ble_eq_true rfl) q3397 rfl rfl ?_
        refine g_iconst (v := nI 1) (q := 59) B dX3_removes_58 rfl (by decide) ?_
        refine g_zast (q := 60) (L2 := [[(m, .inr (12, [.ref ls, .ref lb, .ref lk, .ref lp, .ref lr, .ref le, .ref lm, .ref lo, .int (nI th), .int z, .int (nI bo), .int (nI cm)]))], l8_1, [(it4, .inr (22, [.int (nI (k + 1)), .int (nI k), .int md_1, .ref lr]))], w1, [(e, .inr (16, [.int (nI (eNo ((eNo r, S.1, eGo r, eKy r, eCh r, eWy r, S.2.1, ePk r) : MeS))), .int (nI (2 ^ (eTr ((eNo r, S.1, eGo r, eKy r, eCh r, eWy r, S.2.1, ePk r) : MeS)).1)), .int (nI (eGo ((eNo r, S.1, eGo r, eKy r, eCh r, eWy r, S.2.1, ePk r) : MeS))), .int (nI (eKy ((eNo r, S.1, eGo r, eKy r, eCh r, eWy r, S.2.1, ePk r) : MeS))), .ref ap_o, .ref an_o, .ref al_o, .ref ac_o, .ref aw_o, .ref am_o, .ref ak_o]))], [(ap_o, .inl (g.2.1 0, 16, .inl fp_o))], [(an_o, .inl (g.2.1 0, 31, .inl fn_o))], [(al_o, .inl (g.2.1 0, 31, .inl fl_o))], [(ac_o, .inl (g.2.1 0, 16, .inl fc_o))], [(aw_o, .inl (g.2.1 4, 31, .inl fw_o))], [(am_o, .inl (g.2.1 4, 16, .inl (upd fm_o r18.2.2 (vp_nar .boolean (nI 1)))))], [(ak_o, .inl (g.2.1 0, 16, .inl fk_o))]]) B (k := 10) dX3_removes_59 rfl rfl (vp_in_nI (by omega) (by omega)) (by rw [nI_clamp (by omega)] <;> rfl) ?_
        obtain ⟨f59, ef59⟩ : ∃ f : Nat → Int32, f = upd fm_o r18.2.2 (vp_nar .boolean (nI 1)) := ⟨_, rfl⟩
        have hf59 : ∀ i, i < 16 → f59 i = bI (fup (eRm ((eNo r, S.1, eGo r, eKy r, eCh r, eWy r, S.2.1, ePk r) : MeS)) r18.2.2 true i) := by rw [ef59]; exact upd_bI hfm_o _ true
        rw [← ef59]
        refine (show Go g κ 60 [some (.ref m), some (.ref e), some (.ref it4), some (.ref x18), some (.int (nI pp)), none, none] [] [[(m, .inr (12, [.ref ls, .ref lb, .ref lk, .ref lp, .ref lr, .ref le, .ref lm, .ref lo, .int (nI th), .int z, .int (nI bo), .int (nI cm)]))], l8_1, [(it4, .inr (22, [.int (nI (k + 1)), .int (nI k), .int md_1, .ref lr]))], w1, [(e, .inr (16, [.int (nI (eNo ((eNo r, S.1, eGo r, eKy r, eCh r, eWy r, S.2.1, ePk r) : MeS))), .int (nI (2 ^ (eTr ((eNo r, S.1, eGo r, eKy r, eCh r, eWy r, S.2.1, ePk r) : MeS)).1)), .int (nI (eGo ((eNo r, S.1, eGo r, eKy r, eCh r, eWy r, S.2.1, ePk r) : MeS))), .int (nI (eKy ((eNo r, S.1, eGo r, eKy r, eCh r, eWy r, S.2.1, ePk r) : MeS))), .ref ap_o, .ref an_o, .ref al_o, .ref ac_o, .ref aw_o, .ref am_o, .ref ak_o]))], [(ap_o, .inl (g.2.1 0, 16, .inl fp_o))], [(an_o, .inl (g.2.1 0, 31, .inl fn_o))], [(al_o, .inl (g.2.1 0, 31, .inl fl_o))], [(ac_o, .inl (g.2.1 0, 16, .inl fc_o))], [(aw_o, .inl (g.2.1 4, 31, .inl fw_o))], [(am_o, .inl (g.2.1 4, 16, .inl f59))], [(ak_o, .inl (g.2.1 0, 16, .inl fk_o))]] (Rs.length - k) (4 * (Rs.length - k)) from ?_)
        refine g_aload_n (q := 61) B dX3_removes_60 rfl rfl (rv_r _) ?_
        refine g_getN (q := 64) B (ci := 16) (k := 4) (j := 4) in_X13 rfl dX3_removes_61 rfl rfl (Nat.le_of_ble_eq_true rfl) q3261 rfl rfl ?_
        refine g_aload_n (q := 65) B dX3_removes_64 rfl rfl (rv_r _) ?_
        refine g_getNM (q := 68) B (ci := 18) (k := 3) (j := 2) in_X17 rfl dX3_removes_65 rfl rfl (hc_11_0) (Nat.le_of_ble_eq_true rfl) q3397 rfl rfl ?_
        refine g_iconst (v := -1) (q := 69) B dX3_removes_68 rfl (by decide) ?_
        refine g_iast (q := 70) (L2 := [[(m, .inr (12, [.ref ls, .ref lb, .ref lk, .ref lp, .ref lr, .ref le, .ref lm, .ref lo, .int (nI th), .int z, .int (nI bo), .int (nI cm)]))], l8_1, [(it4, .inr (22, [.int (nI (k + 1)), .int (nI k), .int md_1, .ref lr]))], w1, [(e, .inr (16, [.int (nI (eNo ((eNo r, S.1, eGo r, eKy r, eCh r, eWy r, S.2.1, ePk r) : MeS))), .int (nI (2 ^ (eTr ((eNo r, S.1, eGo r, eKy r, eCh r, eWy r, S.2.1, ePk r) : MeS)).1)), .int (nI (eGo ((eNo r, S.1, eGo r, eKy r, eCh r, eWy r, S.2.1, ePk r) : MeS))), .int (nI (eKy ((eNo r, S.1, eGo r, eKy r, eCh r, eWy r, S.2.1, ePk r) : MeS))), .ref ap_o, .ref an_o, .ref al_o, .ref ac_o, .ref aw_o, .ref am_o, .ref ak_o]))], [(ap_o, .inl (g.2.1 0, 16, .inl (upd fp_o r18.2.2 (-1))))], [(an_o, .inl (g.2.1 0, 31, .inl fn_o))], [(al_o, .inl (g.2.1 0, 31, .inl fl_o))], [(ac_o, .inl (g.2.1 0, 16, .inl fc_o))], [(aw_o, .inl (g.2.1 4, 31, .inl fw_o))], [(am_o, .inl (g.2.1 4, 16, .inl f59))], [(ak_o, .inl (g.2.1 0, 16, .inl fk_o))]]) B (k := 5) dX3_removes_69 rfl rfl (vp_in_nI (by omega) (by omega)) (by rw [nI_clamp (by omega)] <;> rfl) ?_
        obtain ⟨f69, ef69⟩ : ∃ f : Nat → Int32, f = upd fp_o r18.2.2 (-1) := ⟨_, rfl⟩
        have hf69 : ∀ i, i < 16 → f69 i = oI (fup ((eTr ((eNo r, S.1, eGo r, eKy r, eCh r, eWy r, S.2.1, ePk r) : MeS)).2.2.2) r18.2.2 none i) := by rw [ef69]; exact upd_oI hfp_o _ none
        rw [← ef69]
        refine (show Go g κ 70 [some (.ref m), some (.ref e), some (.ref it4), some (.ref x18), some (.int (nI pp)), none, none] [] [[(m, .inr (12, [.ref ls, .ref lb, .ref lk, .ref lp, .ref lr, .ref le, .ref lm, .ref lo, .int (nI th), .int z, .int (nI bo), .int (nI cm)]))], l8_1, [(it4, .inr (22, [.int (nI (k + 1)), .int (nI k), .int md_1, .ref lr]))], w1, [(e, .inr (16, [.int (nI (eNo ((eNo r, S.1, eGo r, eKy r, eCh r, eWy r, S.2.1, ePk r) : MeS))), .int (nI (2 ^ (eTr ((eNo r, S.1, eGo r, eKy r, eCh r, eWy r, S.2.1, ePk r) : MeS)).1)), .int (nI (eGo ((eNo r, S.1, eGo r, eKy r, eCh r, eWy r, S.2.1, ePk r) : MeS))), .int (nI (eKy ((eNo r, S.1, eGo r, eKy r, eCh r, eWy r, S.2.1, ePk r) : MeS))), .ref ap_o, .ref an_o, .ref al_o, .ref ac_o, .ref aw_o, .ref am_o, .ref ak_o]))], [(ap_o, .inl (g.2.1 0, 16, .inl f69))], [(an_o, .inl (g.2.1 0, 31, .inl fn_o))], [(al_o, .inl (g.2.1 0, 31, .inl fl_o))], [(ac_o, .inl (g.2.1 0, 16, .inl fc_o))], [(aw_o, .inl (g.2.1 4, 31, .inl fw_o))], [(am_o, .inl (g.2.1 4, 16, .inl f59))], [(ak_o, .inl (g.2.1 0, 16, .inl fk_o))]] (Rs.length - k) (4 * (Rs.length - k)) from ?_)
        refine g_aload_n (q := 71) B dX3_removes_70 rfl rfl (rv_r _) ?_
        refine g_getN (q := 74) B (ci := 16) (k := 4) (j := 5) in_X13 rfl dX3_removes_71 rfl rfl (Nat.le_of_ble_eq_true rfl) q3263 rfl rfl ?_
        refine g_iconst (v := nI 2) (q := 75) B dX3_removes_74 rfl (by decide) ?_
        refine g_aload_n (q := 76) B dX3_removes_75 rfl rfl (rv_r _) ?_
        refine g_getNM (q := 79) B (ci := 18) (k := 3) (j := 2) in_X17 rfl dX3_removes_76 rfl rfl (hc_11_0) (Nat.le_of_ble_eq_true rfl) q3397 rfl rfl ?_
        refine g_imul (v := nI (2 * r18.2.2)) (q := 80) B dX3_removes_79 rfl (pk_mul _ _) ?_
        refine g_iconst (v := -1) (q := 81) B dX3_removes_80 rfl (by decide) ?_
        refine g_iast (q := 82) (L2 := [[(m, .inr (12, [.ref ls, .ref lb, .ref lk, .ref lp, .ref lr, .ref le, .ref lm, .ref lo, .int (nI th), .int z, .int (nI bo), .int (nI cm)]))], l8_1, [(it4, .inr (22, [.int (nI (k + 1)), .int (nI k), .int md_1, .ref lr]))], w1, [(e, .inr (16, [.int (nI (eNo ((eNo r, S.1, eGo r, eKy r, eCh r, eWy r, S.2.1, ePk r) : MeS))), .int (nI (2 ^ (eTr ((eNo r, S.1, eGo r, eKy r, eCh r, eWy r, S.2.1, ePk r) : MeS)).1)), .int (nI (eGo ((eNo r, S.1, eGo r, eKy r, eCh r, eWy r, S.2.1, ePk r) : MeS))), .int (nI (eKy ((eNo r, S.1, eGo r, eKy r, eCh r, eWy r, S.2.1, ePk r) : MeS))), .ref ap_o, .ref an_o, .ref al_o, .ref ac_o, .ref aw_o, .ref am_o, .ref ak_o]))], [(ap_o, .inl (g.2.1 0, 16, .inl f69))], [(an_o, .inl (g.2.1 0, 31, .inl (upd fn_o (2 * r18.2.2) (-1))))], [(al_o, .inl (g.2.1 0, 31, .inl fl_o))], [(ac_o, .inl (g.2.1 0, 16, .inl fc_o))], [(aw_o, .inl (g.2.1 4, 31, .inl fw_o))], [(am_o, .inl (g.2.1 4, 16, .inl f59))], [(ak_o, .inl (g.2.1 0, 16, .inl fk_o))]]) B (k := 6) dX3_removes_81 rfl rfl (vp_in_nI (by omega) (by omega)) (by rw [nI_clamp (by omega)] <;> rfl) ?_
        obtain ⟨f81, ef81⟩ : ∃ f : Nat → Int32, f = upd fn_o (2 * r18.2.2) (-1) := ⟨_, rfl⟩
        have hf81 : ∀ i, i < 31 → f81 i = oI (fup ((eTr ((eNo r, S.1, eGo r, eKy r, eCh r, eWy r, S.2.1, ePk r) : MeS)).2.1) (2 * r18.2.2) none i) := by rw [ef81]; exact upd_oI hfn_o _ none
        rw [← ef81]
        refine (show Go g κ 82 [some (.ref m), some (.ref e), some (.ref it4), some (.ref x18), some (.int (nI pp)), none, none] [] [[(m, .inr (12, [.ref ls, .ref lb, .ref lk, .ref lp, .ref lr, .ref le, .ref lm, .ref lo, .int (nI th), .int z, .int (nI bo), .int (nI cm)]))], l8_1, [(it4, .inr (22, [.int (nI (k + 1)), .int (nI k), .int md_1, .ref lr]))], w1, [(e, .inr (16, [.int (nI (eNo ((eNo r, S.1, eGo r, eKy r, eCh r, eWy r, S.2.1, ePk r) : MeS))), .int (nI (2 ^ (eTr ((eNo r, S.1, eGo r, eKy r, eCh r, eWy r, S.2.1, ePk r) : MeS)).1)), .int (nI (eGo ((eNo r, S.1, eGo r, eKy r, eCh r, eWy r, S.2.1, ePk r) : MeS))), .int (nI (eKy ((eNo r, S.1, eGo r, eKy r, eCh r, eWy r, S.2.1, ePk r) : MeS))), .ref ap_o, .ref an_o, .ref al_o, .ref ac_o, .ref aw_o, .ref am_o, .ref ak_o]))], [(ap_o, .inl (g.2.1 0, 16, .inl f69))], [(an_o, .inl (g.2.1 0, 31, .inl f81))], [(al_o, .inl (g.2.1 0, 31, .inl fl_o))], [(ac_o, .inl (g.2.1 0, 16, .inl fc_o))], [(aw_o, .inl (g.2.1 4, 31, .inl fw_o))], [(am_o, .inl (g.2.1 4, 16, .inl f59))], [(ak_o, .inl (g.2.1 0, 16, .inl fk_o))]] (Rs.length - k) (4 * (Rs.length - k)) from ?_)
        obtain ⟨wc_12, ewc_12⟩ : ∃ w : va_W, w = ([[(e, .inr (16, [.int (nI (eNo ((eNo r, S.1, eGo r, eKy r, eCh r, eWy r, S.2.1, ePk r) : MeS))), .int (nI (2 ^ (eTr ((eNo r, S.1, eGo r, eKy r, eCh r, eWy r, S.2.1, ePk r) : MeS)).1)), .int (nI (eGo ((eNo r, S.1, eGo r, eKy r, eCh r, eWy r, S.2.1, ePk r) : MeS))), .int (nI (eKy ((eNo r, S.1, eGo r, eKy r, eCh r, eWy r, S.2.1, ePk r) : MeS))), .ref ap_o, .ref an_o, .ref al_o, .ref ac_o, .ref aw_o, .ref am_o, .ref ak_o]))], [(ap_o, .inl (g.2.1 0, 16, .inl f69))], [(an_o, .inl (g.2.1 0, 31, .inl f81))], [(al_o, .inl (g.2.1 0, 31, .inl fl_o))], [(ac_o, .inl (g.2.1 0, 16, .inl fc_o))], [(aw_o, .inl (g.2.1 4, 31, .inl fw_o))], [(am_o, .inl (g.2.1 4, 16, .inl f59))], [(ak_o, .inl (g.2.1 0, 16, .inl fk_o))]] : List va_W).flatten := ⟨_, rfl⟩
        have hwc_12 : EpP g e ((eNo r, ((S.1.1, fup S.1.2.1 (2 * r18.2.2) none, S.1.2.2.1, fup S.1.2.2.2 r18.2.2 none) : TrS), eGo r, eKy r, eCh r, eWy r, fup S.2.1 r18.2.2 true, ePk r) : MeS) wc_12 := by
          rw [ewc_12]
          exact ⟨ap_o, an_o, al_o, ac_o, aw_o, am_o, ak_o, f69, f81, fl_o, fc_o, fw_o, f59, fk_o, (MeB.tr (r := ((eNo r, S.1, eGo r, eKy r, eCh r, eWy r, fup S.2.1 r18.2.2 true, ePk r) : MeS)) hE_o (TrB.per (TrB.sec hE_o.2.1 (2 * r18.2.2) none (fun n h => by cases h)) r18.2.2 none (fun n h => by cases h))), hf69, hf81, hfl_o, hfc_o, hfw_o, hf59, hfk_o, rfl⟩
        refine g_close (w := wc_12) [4, 4, 4, 4, 4, 4, 4, 4] rfl ewc_12 rfl ?_
        refine (show Go g κ 82 [some (.ref m), some (.ref e), some (.ref it4), some (.ref x18), some (.int (nI pp)), none, none] [] [[(m, .inr (12, [.ref ls, .ref lb, .ref lk, .ref lp, .ref lr, .ref le, .ref lm, .ref lo, .int (nI th), .int z, .int (nI bo), .int (nI cm)]))], l8_1, [(it4, .inr (22, [.int (nI (k + 1)), .int (nI k), .int md_1, .ref lr]))], w1, wc_12] (Rs.length - k) (4 * (Rs.length - k)) from ?_)
        refine g_aload_n (q := 83) B dX3_removes_82 rfl rfl (rv_r _) ?_
        refine g_aload_n (q := 84) B dX3_removes_83 rfl rfl (rv_r _) ?_
        refine g_getNM (q := 87) B (ci := 18) (k := 3) (j := 2) in_X17 rfl dX3_removes_84 rfl rfl (hc_11_0) (Nat.le_of_ble_eq_true rfl) q3397 rfl rfl ?_
        refine g_callS (q := 90) (is := [4]) (kc2 := Rs.length - k) (ks2 := 4 * (Rs.length - k)) B [.ref e, .int (nI r18.2.2)] (ct_X3_blanks g J (e := e) (r := ((eNo r, ((S.1.1, fup S.1.2.1 (2 * r18.2.2) none, S.1.2.2.1, fup S.1.2.2.2 r18.2.2 none) : TrS), eGo r, eKy r, eCh r, eWy r, fup S.2.1 r18.2.2 true, ePk r) : MeS)) (l := r18.2.2) hwc_12 (by have z := (rmM_i Rs ((eTr r, eRm r, Ks) : RnS) hL0 k hk).2.1; rw [← hS] at z; have z : S.1.1 = (eTr r).1 := z; show r18.2.2 < 2 ^ S.1.1; rw [z]; omega)) dX3_removes_87 rfl q3431 q3432 q85 q3433 rfl rfl moX3_blanks rfl rfl (by decide) (by decide) (Nat.le_of_ble_eq_true rfl) (by omega) (by omega) (fun _ _ hx => noX_x hx) (fun v87 L1 hp87 => ?_)
        obtain ⟨u0_87, rfl, rfl, hu0_87⟩ := hp87
        refine (show Go g κ 90 [some (.ref m), some (.ref e), some (.ref it4), some (.ref x18), some (.int (nI pp)), none, none] [] [[(m, .inr (12, [.ref ls, .ref lb, .ref lk, .ref lp, .ref lr, .ref le, .ref lm, .ref lo, .int (nI th), .int z, .int (nI bo), .int (nI cm)]))], l8_1, [(it4, .inr (22, [.int (nI (k + 1)), .int (nI k), .int md_1, .ref lr]))], w1, u0_87] (Rs.length - k) (4 * (Rs.length - k)) from ?_)
        have hr_13 : EpP g e ((eNo r, (remT S.1 r18.2.2), eGo r, eKy r, eCh r, eWy r, fup S.2.1 r18.2.2 true, ePk r) : MeS) u0_87 := by rw [← remT_e hi1 r18.2.2]; exact hu0_87
        obtain ⟨mdk, hmk⟩ := MkM.of hl8_1
        refine g_aload_n (q := 91) B dX3_removes_90 rfl rfl (rv_r _) ?_
        refine g_get (q := 94) B (ci := 12) (k := 0) (j := 2) in_X3 rfl dX3_removes_91 rfl rfl (Nat.le_of_ble_eq_true rfl) q3059 rfl rfl ?_
        obtain ⟨hli_14, hln_14, hel_14⟩ := MkM.at (Sub.self hmk)
        refine g_callV (q := 97) (is := [1]) (kc2 := (Rs.length - k) - 1) (ks2 := (4 * (Rs.length - k)) - 4) B [] (ct_J2_iterator_s g J (p := lk) (xs := mks) (md := mdk) (cap := kcap) (W0 := l8_1)  (hli_14)) dX3_removes_94 rfl (rc_in B (ci := 21) rfl (k := 1) rfl (MkM.hm hmk)) rfl q3232 q805 q3668 q81 q807 rfl rfl moJ2_iterator rfl rfl (by decide) (by decide) (Nat.le_of_ble_eq_true rfl) (by omega) (by omega) (fun _ _ hx => noX_x hx) (fun v94 L1 hp94 => ?_)
        obtain ⟨it94, rfl, rfl⟩ := hp94
        refine (show Go g κ 97 [some (.ref m), some (.ref e), some (.ref it4), some (.ref x18), some (.int (nI pp)), none, none] [.ref it94] [[(m, .inr (12, [.ref ls, .ref lb, .ref lk, .ref lp, .ref lr, .ref le, .ref lm, .ref lo, .int (nI th), .int z, .int (nI bo), .int (nI cm)]))], [(it4, .inr (22, [.int (nI (k + 1)), .int (nI k), .int md_1, .ref lr]))], w1, u0_87, [(it94, .inr (22, [.int (nI 0), .int (-1), .int mdk, .ref lk]))], l8_1] ((Rs.length - k) - 1) ((4 * (Rs.length - k)) - 4) from ?_)
        refine g_astore (q := 99) (lv2 := [some (.ref m), some (.ref e), some (.ref it4), some (.ref x18), some (.int (nI pp)), some (.ref it94), none]) B dX3_removes_97 rfl (Nat.le_of_ble_eq_true rfl) (rv_r _) rfl ?_
        have lp99 : ∀ (n99 : Nat) (j : Nat) (lr2 : Int32) (l99_5 : va_W), MkM g lk mks (gnK pp S.2.2 j) kcap mdk l99_5 → (j ≤ S.2.2.length) → S.2.2.length - j = n99 → Go g κ 99 [some (.ref m), some (.ref e), some (.ref it4), some (.ref x18), some (.int (nI pp)), some (.ref it94), none] [] [[(m, .inr (12, [.ref ls, .ref lb, .ref lk, .ref lp, .ref lr, .ref le, .ref lm, .ref lo, .int (nI th), .int z, .int (nI bo), .int (nI cm)]))], [(it4, .inr (22, [.int (nI (k + 1)), .int (nI k), .int md_1, .ref lr]))], w1, u0_87, [(it94, .inr (22, [.int (nI j), .int lr2, .int mdk, .ref lk]))], l99_5] ((Rs.length - k) - 1) ((4 * (Rs.length - k)) - 4) := by
          intro n99
          induction n99 using Nat.strongRecOn with
          | _ n99 ih99 =>
          intro j lr2 l99_5 hl99_5 hj hmu99
          refine g_aload (q := 101) B dX3_removes_99 rfl rfl (rv_r _) ?_
          obtain ⟨hli_15, hln_15, hel_15⟩ := MkM.at (Sub.self hl99_5)
          refine g_callF (q := 106) (is := [4, 4]) (kc2 := (Rs.length - k) - 1) (ks2 := (4 * (Rs.length - k)) - 4) B [] (ct_J19_hasNext_s g J (p := lk) (xs := mks) (md := mdk) (cap := kcap) (it := it94) (c := j) (lr := lr2) (W1 := l99_5)  (hli_15) (by have := hln_15.1; omega)) dX3_removes_101 rfl (ci := 22) rfl (rc_at B (ci := 22) rfl (k := 4) rfl) q3234 q940 q942 q104 q944 q938 q937 q943 q941 q939 rfl rfl mojava_util_Iterator_hasNext___Z rfl rfl (by decide) (by decide) (Nat.le_of_ble_eq_true rfl) (by omega) (by omega) (fun _ _ hx => noX_x hx) (fun v101 L1 hp101 => ?_)
          obtain ⟨rfl, rfl⟩ := hp101
          refine (show Go g κ 106 [some (.ref m), some (.ref e), some (.ref it4), some (.ref x18), some (.int (nI pp)), some (.ref it94), none] [.int (nI (if ¬ j = mks.length then 1 else 0))] [[(m, .inr (12, [.ref ls, .ref lb, .ref lk, .ref lp, .ref lr, .ref le, .ref lm, .ref lo, .int (nI th), .int z, .int (nI bo), .int (nI cm)]))], [(it4, .inr (22, [.int (nI (k + 1)), .int (nI k), .int md_1, .ref lr]))], w1, u0_87, [(it94, .inr (22, [.int (nI j), .int lr2, .int mdk, .ref lk]))], l99_5] ((Rs.length - k) - 1) ((4 * (Rs.length - k)) - 4) from ?_)
          rw [hln_15.1]
          refine (show Go g κ 106 [some (.ref m), some (.ref e), some (.ref it4), some (.ref x18), some (.int (nI pp)), some (.ref it94), none] [.int (nI (if ¬ j = (gnK pp S.2.2 j).length then 1 else 0))] [[(m, .inr (12, [.ref ls, .ref lb, .ref lk, .ref lp, .ref lr, .ref le, .ref lm, .ref lo, .int (nI th), .int z, .int (nI bo), .int (nI cm)]))], [(it4, .inr (22, [.int (nI (k + 1)), .int (nI k), .int md_1, .ref lr]))], w1, u0_87, [(it94, .inr (22, [.int (nI j), .int lr2, .int mdk, .ref lk]))], l99_5] ((Rs.length - k) - 1) ((4 * (Rs.length - k)) - 4) from ?_)
          refine g_if_eq (tgt := 148) (q := 109) B dX3_removes_106 rfl (by decide) (bo_eq) (fun c106 => ?_) (fun c106 => ?_)
          · skip
            have hgl := gnK_l pp S.2.2 j
            have hje : S.2.2.length = j := by omega
            have hml : LoP g (MqP g) lk mks (S.2.2.map (gnP pp)) kcap l99_5 := by rw [← gnK_e, hje]; exact MkM.lo hl99_5
            refine g_goto (tgt := 8) B dX3_removes_148 (by decide) ?_
            have hR1 := rmM1_y (S := S) c33 hpp
            have hr_16 : EpP g e ((eNo r, (rmM1 S r18).1, eGo r, eKy r, eCh r, eWy r, (rmM1 S r18).2.1, ePk r) : MeS) u0_87 := by rw [hR1]; exact hr_13
            have hr_17 : LoP g (MqP g) lk mks ((rmM1 S r18).2.2) kcap l99_5 := by rw [hR1]; exact hml
            refine g_fg 3 rfl ?_
            refine g_fg 4 rfl ?_
            refine g_fg 5 rfl ?_
            refine g_pk [0, 4, 2, 0, 0] rfl rfl ?_
            refine (show Go g κ 8 [some (.ref m), some (.ref e), some (.ref it4), none, none, none, none] [] [[(m, .inr (12, [.ref ls, .ref lb, .ref lk, .ref lp, .ref lr, .ref le, .ref lm, .ref lo, .int (nI th), .int z, .int (nI bo), .int (nI cm)]))], l99_5, u0_87, [(it4, .inr (22, [.int (nI (k + 1)), .int (nI k), .int md_1, .ref lr]))], w1] ((Rs.length - k) - 1) ((4 * (Rs.length - k)) - 4) from ?_)
            refine g_room (kc2 := Rs.length - (k + 1)) (ks2 := 4 * (Rs.length - (k + 1))) (by omega) (by omega) ?_
            exact ih8 _ (by have := get_lt2 hr18; omega) (k + 1) (nI k) (rmM1 S r18) l99_5 u0_87 hr_17 hr_16 (by first | assumption | omega | rfl) (by rw [hS, rmM_s hr18]) rfl
          · skip
            have c106 := Classical.not_not.mp c106
            have hgl := gnK_l pp S.2.2 j
            obtain ⟨q, hq⟩ := get_ex (xs := S.2.2) (i := j) (by omega)
            have hq2 := (gnK_at (p := pp) (get_lt2 hq)).trans hq
            refine g_aload (q := 111) B dX3_removes_109 rfl rfl (rv_r _) ?_
            obtain ⟨x111, hx111⟩ := get_ex (xs := mks) (i := j) (by have := get_lt2 (show (gnK pp S.2.2 j)[j]? = some q from hq2); have := hln_15.1; omega)
            have hE_18 := hel_15 _ _ _ hx111 (show (gnK pp S.2.2 j)[j]? = some q from hq2)
            refine g_callF (q := 116) (is := [4, 4]) (kc2 := (Rs.length - k) - 1) (ks2 := (4 * (Rs.length - k)) - 4) B [] (ct_J19_next_s g J (p := lk) (xs := mks) (md := mdk) (cap := kcap) (it := it94) (c := j) (lr := lr2) (x := x111) (W1 := l99_5)  (hli_15) (hx111)) dX3_removes_111 rfl (ci := 22) rfl (rc_at B (ci := 22) rfl (k := 4) rfl) q3236 q967 q969 q104 q971 q966 q965 q970 q968 q939 rfl rfl mojava_util_Iterator_next___Ljava_lang_Object_ rfl rfl (by decide) (by decide) (Nat.le_of_ble_eq_true rfl) (by omega) (by omega) (fun _ _ hx => noX_x hx) (fun v111 L1 hp111 => ?_)
            obtain ⟨rfl, rfl⟩ := hp111
            refine (show Go g κ 116 [some (.ref m), some (.ref e), some (.ref it4), some (.ref x18), some (.int (nI pp)), some (.ref it94), none] [.ref x111] [[(m, .inr (12, [.ref ls, .ref lb, .ref lk, .ref lp, .ref lr, .ref le, .ref lm, .ref lo, .int (nI th), .int z, .int (nI bo), .int (nI cm)]))], [(it4, .inr (22, [.int (nI (k + 1)), .int (nI k), .int md_1, .ref lr]))], w1, u0_87, [(it94, .inr (22, [.int (nI (j + 1)), .int (nI j), .int mdk, .ref lk]))], l99_5] ((Rs.length - k) - 1) ((4 * (Rs.length - k)) - 4) from ?_)
            refine g_castRS (ci := 15) (q := 119) B rfl (rc_in B (ci := 15) rfl (k := 5) rfl (Sub.hm (hE_18) fun _ z => MqP.hm z)) dX3_removes_116 rfl q3198 ?_
            refine g_astore (q := 121) (lv2 := [some (.ref m), some (.ref e), some (.ref it4), some (.ref x18), some (.int (nI pp)), some (.ref it94), some (.ref x111)]) B dX3_removes_119 rfl (Nat.le_of_ble_eq_true rfl) (rv_r _) rfl ?_
            have hqB := (MqP.at (hE_18)).1
            have hqb1 := hqB.1
            refine g_aload (q := 123) B dX3_removes_121 rfl rfl (rv_r _) ?_
            obtain ⟨hK_19, hc_19_0⟩ := MqP.at (hE_18)
            refine g_getNM (q := 126) B (ci := 15) (k := 5) (j := 0) in_X9 rfl dX3_removes_123 rfl rfl (hc_19_0) (Nat.le_of_ble_eq_true rfl) q3205 rfl rfl ?_
            refine g_iload (q := 128) B dX3_removes_126 rfl rfl ?_
            refine g_icmp_ne (tgt := 145) (q := 131) B dX3_removes_128 rfl (by decide) (not_congr (nI_eq (by omega) (by omega))) (fun c128 => ?_) (fun c128 => ?_)
            · skip
              have hgq : gnP pp q = q := by unfold gnP; rw [if_neg (by rintro ⟨z1, z2⟩; first | exact c128 z1 | exact c136 z2)]
              have hr_20 : MkM g lk mks (gnK pp S.2.2 (j + 1)) kcap mdk l99_5 := by rw [← gnK_s hq, hgq, set_same hq2]; exact hl99_5
              refine g_goto (tgt := 99) B dX3_removes_145 (by decide) ?_
              refine g_fg 6 rfl ?_
              exact ih99 _ (by omega) (j + 1) (nI j) l99_5 hr_20 (by omega) rfl
            · skip
              have c128 := Classical.not_not.mp c128
              refine g_aload (q := 133) B dX3_removes_131 rfl rfl (rv_r _) ?_
              refine g_getNM (q := 136) B (ci := 15) (k := 5) (j := 3) in_X9 rfl dX3_removes_133 rfl rfl (hc_19_0) (Nat.le_of_ble_eq_true rfl) q3210 rfl rfl ?_
              refine g_if_eq (tgt := 145) (q := 139) B dX3_removes_136 rfl (by decide) (bo_eq) (fun c136 => ?_) (fun c136 => ?_)
              · skip
                have hgq : gnP pp q = q := by unfold gnP; rw [if_neg (by rintro ⟨z1, z2⟩; first | exact c128 z1 | exact c136 z2)]
                have hr_21 : MkM g lk mks (gnK pp S.2.2 (j + 1)) kcap mdk l99_5 := by rw [← gnK_s hq, hgq, set_same hq2]; exact hl99_5
                refine g_goto (tgt := 99) B dX3_removes_145 (by decide) ?_
                refine g_fg 6 rfl ?_
                exact ih99 _ (by omega) (j + 1) (nI j) l99_5 hr_21 (by omega) rfl
              · skip
                have c136 := Classical.not_not.mp c136
                obtain ⟨lu1_o, lwi_o, lu2_o, hlwi_o, hlcl_o, hle_o⟩ := MkM.opn hl99_5 hx111 hq2
                refine g_open 5 rfl hle_o rfl ?_
                refine (show Go g κ 139 [some (.ref m), some (.ref e), some (.ref it4), some (.ref x18), some (.int (nI pp)), some (.ref it94), some (.ref x111)] [] [[(m, .inr (12, [.ref ls, .ref lb, .ref lk, .ref lp, .ref lr, .ref le, .ref lm, .ref lo, .int (nI th), .int z, .int (nI bo), .int (nI cm)]))], [(it4, .inr (22, [.int (nI (k + 1)), .int (nI k), .int md_1, .ref lr]))], w1, u0_87, [(it94, .inr (22, [.int (nI (j + 1)), .int (nI j), .int mdk, .ref lk]))], lu1_o, lwi_o, lu2_o] ((Rs.length - k) - 1) ((4 * (Rs.length - k)) - 4) from ?_)
                obtain ⟨hK_p, rfl⟩ := hlwi_o
                refine g_open 6 rfl rfl rfl ?_
                refine (show Go g κ 139 [some (.ref m), some (.ref e), some (.ref it4), some (.ref x18), some (.int (nI pp)), some (.ref it94), some (.ref x111)] [] [[(m, .inr (12, [.ref ls, .ref lb, .ref lk, .ref lp, .ref lr, .ref le, .ref lm, .ref lo, .int (nI th), .int z, .int (nI bo), .int (nI cm)]))], [(it4, .inr (22, [.int (nI (k + 1)), .int (nI k), .int md_1, .ref lr]))], w1, u0_87, [(it94, .inr (22, [.int (nI (j + 1)), .int (nI j), .int mdk, .ref lk]))], lu1_o, lu2_o, [(x111, .inr (15, [.int (nI q.1), .int (nI q.2.1), .int (nI q.2.2.1), .int (nI (if q.2.2.2.1 = true then 1 else 0)), .int (nI (if q.2.2.2.2 = true then 1 else 0))]))]] ((Rs.length - k) - 1) ((4 * (Rs.length - k)) - 4) from ?_)
                refine g_aload (q := 141) B dX3_removes_139 rfl rfl (rv_r _) ?_
                refine g_iconst (v := nI 1) (q := 142) B dX3_removes_141 rfl (by decide) ?_
                refine g_putN (q := 145) (L2 := [[(m, .inr (12, [.ref ls, .ref lb, .ref lk, .ref lp, .ref lr, .ref le, .ref lm, .ref lo, .int (nI th), .int z, .int (nI bo), .int (nI cm)]))], [(it4, .inr (22, [.int (nI (k + 1)), .int (nI k), .int md_1, .ref lr]))], w1, u0_87, [(it94, .inr (22, [.int (nI (j + 1)), .int (nI j), .int mdk, .ref lk]))], lu1_o, lu2_o, [(x111, .inr (15, [.int (nI q.1), .int (nI q.2.1), .int (nI q.2.2.1), .int (nI (if q.2.2.2.1 = true then 1 else 0)), .int (nI 1)]))]]) B (ci := 15) (k := 7) (j := 4) in_X9 tyX9 tyX9_ok nmX9 rfl dX3_removes_142 rfl rfl (Nat.le_of_ble_eq_true rfl) q3211 rfl rfl rfl rfl (Nat.le_of_ble_eq_true rfl) rfl ?_
                have hgq : gnP pp q = (q.1, q.2.1, q.2.2.1, q.2.2.2.1, true) := by unfold gnP; rw [if_pos ⟨c128, c136⟩]
                obtain ⟨wc_22, ewc_22⟩ : ∃ w : va_W, w = ([[(x111, .inr (15, [.int (nI q.1), .int (nI q.2.1), .int (nI q.2.2.1), .int (nI (if q.2.2.2.1 = true then 1 else 0)), .int (nI 1)]))]] : List va_W).flatten := ⟨_, rfl⟩
                have hwc_22 : MqP g x111 ((q.1, q.2.1, q.2.2.1, q.2.2.2.1, true) : MkS) wc_22 := by
                  rw [ewc_22]
                  exact ⟨hK_p, rfl⟩
                refine g_close (w := wc_22) [7] rfl ewc_22 rfl ?_
                refine (show Go g κ 145 [some (.ref m), some (.ref e), some (.ref it4), some (.ref x18), some (.int (nI pp)), some (.ref it94), some (.ref x111)] [] [[(m, .inr (12, [.ref ls, .ref lb, .ref lk, .ref lp, .ref lr, .ref le, .ref lm, .ref lo, .int (nI th), .int z, .int (nI bo), .int (nI cm)]))], [(it4, .inr (22, [.int (nI (k + 1)), .int (nI k), .int md_1, .ref lr]))], w1, u0_87, [(it94, .inr (22, [.int (nI (j + 1)), .int (nI j), .int mdk, .ref lk]))], lu1_o, lu2_o, wc_22] ((Rs.length - k) - 1) ((4 * (Rs.length - k)) - 4) from ?_)
                obtain ⟨wc_23, ewc_23⟩ : ∃ w : va_W, w = ([lu1_o, wc_22, lu2_o] : List va_W).flatten := ⟨_, rfl⟩
                have hwc_23 : MkM g lk mks (gnK pp S.2.2 (j + 1)) kcap mdk wc_23 := by
                  rw [ewc_23]
                  exact by rw [← gnK_s hq, hgq]; exact hlcl_o _ _ hwc_22
                refine g_close (w := wc_23) [5, 6, 5] rfl ewc_23 rfl ?_
                refine (show Go g κ 145 [some (.ref m), some (.ref e), some (.ref it4), some (.ref x18), some (.int (nI pp)), some (.ref it94), some (.ref x111)] [] [[(m, .inr (12, [.ref ls, .ref lb, .ref lk, .ref lp, .ref lr, .ref le, .ref lm, .ref lo, .int (nI th), .int z, .int (nI bo), .int (nI cm)]))], [(it4, .inr (22, [.int (nI (k + 1)), .int (nI k), .int md_1, .ref lr]))], w1, u0_87, [(it94, .inr (22, [.int (nI (j + 1)), .int (nI j), .int mdk, .ref lk]))], wc_23] ((Rs.length - k) - 1) ((4 * (Rs.length - k)) - 4) from ?_)
                refine g_goto (tgt := 99) B dX3_removes_145 (by decide) ?_
                refine g_fg 6 rfl ?_
                exact ih99 _ (by omega) (j + 1) (nI j) wc_23 hwc_23 (by omega) rfl
        have hr_24 : MkM g lk mks (gnK pp S.2.2 0) kcap mdk l8_1 := by rw [gnK_0]; exact hmk
        exact lp99 _ 0 (-1) l8_1 hr_24 (Nat.zero_le _) rfl
      · skip
        refine g_goto (tgt := 8) B dX3_removes_36 (by decide) ?_
        have hR1 := rmM1_n (S := S) c33
        have hr_25 : EpP g e ((eNo r, (rmM1 S r18).1, eGo r, eKy r, eCh r, eWy r, (rmM1 S r18).2.1, ePk r) : MeS) l8_2 := by rw [hR1]; exact hl8_2
        have hr_26 : LoP g (MqP g) lk mks ((rmM1 S r18).2.2) kcap l8_1 := by rw [hR1]; exact hl8_1
        refine g_fg 3 rfl ?_
        refine g_room (kc2 := Rs.length - (k + 1)) (ks2 := 4 * (Rs.length - (k + 1))) (by omega) (by omega) ?_
        exact ih8 _ (by have := get_lt2 hr18; omega) (k + 1) (nI k) (rmM1 S r18) l8_1 l8_2 hr_26 hr_25 (by first | assumption | omega | rfl) (by rw [hS, rmM_s hr18]) rfl
  refine g_room (kc2 := Rs.length - 0) (ks2 := 4 * (Rs.length - 0)) (by omega) (by omega) ?_
  exact lp8 _ 0 (-1) ((eTr r, eRm r, Ks) : RnS) w2 w3 hw2 hw3 (Nat.zero_le _) (rfl) rfl
