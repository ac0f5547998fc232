set_option maxRecDepth 100000
/-! ===== the stages of a commit: both sides ===== -/
theorem frlT_10 {T : TrS} (h : TrI T) : frlT T ≤ 10 := by
  have h3 := (frlT_at h).2.2
  have hm : ∀ j, j < frlT T → ∃ p, T.2.2.2 j = some p := fun j hj => by
    cases e : T.2.2.2 j with
    | none => exact absurd e (h3 j hj)
    | some p => exact ⟨p, rfl⟩
  have hnd : ((List.range (frlT T)).map fun j => (T.2.2.2 j).getD 0).Nodup := by
    refine nd_map List.nodup_range fun a ha b hb e => ?_
    obtain ⟨p, hp⟩ := hm a (List.mem_range.mp ha)
    obtain ⟨q, hq⟩ := hm b (List.mem_range.mp hb)
    rw [hp, hq] at e
    have e : p = q := e
    rw [← e] at hq
    exact h.2.2.2.1 a b p hp hq
  have := nodup_len 10 _ hnd (fun p hp => by
    obtain ⟨j, hj, e⟩ := List.mem_map.mp hp
    obtain ⟨q, hq⟩ := hm j (List.mem_range.mp hj)
    rw [hq] at e
    have e : q = p := e
    rw [← e]; exact (h.2.2.1 j q hq).2)
  rw [List.length_map, List.length_range] at this
  exact this
/-- who renews: a newest member -/
theorem pr_rn {C : KsS} {D : MdS} (h : Inv C D) {T : TrS} (hT : (zTs C)[(zTs C).length - 1]? = some T) {k : Nat} {q : PrS} {p : MrS} (hq : (zRs C)[k]? = some q) (hp : (dRs D)[k]? = some p) (h2 : q.1 = 2) : p.1 = 110 ∧ Nq (zSs C) (dSs D) q.2.2 p.2.2 ∧ ∃ s o, (zPs C)[p.2.1]? = some s ∧ (dPs D)[p.2.1]? = some o ∧ isF (zTs C).length (pEp s) = true ∧ pLf s = q.2.1 ∧ mLf o = q.2.1 ∧ pRn s = some q.2.2 ∧ T.2.2.2 q.2.1 = some p.2.1 := by
  obtain ⟨T2, hT2, hlt, w⟩ := h.2.2.2.2.2.2.2.1.2 k q p hq hp
  rcases w with ⟨w, -⟩ | ⟨w, -⟩ | ⟨-, w2, w3, s, w4, w5, w6, w7⟩
  · omega
  · omega
  · obtain ⟨o, ho, ⟨hw, -, -⟩, -⟩ := h.2.2.2.2.2.2.2.2.2.2.1.l w4
    obtain ⟨e, he, hel⟩ := isF_ln w5
    obtain ⟨T3, Ep, a1, a2, a3, a4, -⟩ := hw.2.2.2.2.2 e he
    rw [show (zTs C).length - 1 = e by omega, a1] at hT
    cases hT
    exact ⟨w2, w3, s, o, w4, ho, w5, w6, by rw [a4]; exact w6, w7, by rw [← w6]; exact a3⟩
theorem mem_at3 {q : PrS} (h : q.1 = 2) : q = (2, q.2.1, q.2.2) := by rw [← h]
theorem rn_run {C : KsS} {D : MdS} (h : Inv C D) {i : Nat} {r : PeS} {T : TrS} {Ep : MeS} (hr : (zPs C)[i]? = some r) (hf : isF (zTs C).length (pEp r) = true) (hT : (zTs C)[(zTs C).length - 1]? = some T) (hI : TrI T) (hQ : TrQ (zSs C) (dSs D) T (eTr Ep)) (hown : T.2.2.2 (pLf r) = some i) : ∀ k, k ≤ (zRs C).length → TrQ (zSs C) (dSs D) (rnK (zRs C) (pLf r) T k) (rnM (dRs D) (dPs D) i (eTr Ep) k) ∧ Rn (zRs C) (pLf r) T (rnK (zRs C) (pLf r) T k)
  | 0, _ => ⟨hQ, Rn.rfl hI⟩
  | k + 1, hk => by
    obtain ⟨g1, g2⟩ := rn_run h hr hf hT hI hQ hown k (by omega)
    obtain ⟨q, hq⟩ := get_ex (xs := zRs C) (i := k) (by omega)
    obtain ⟨p, hp, hPQ⟩ := h.2.2.2.2.2.2.2.1.l hq
    rw [rnK_s hq, rnM_s hp]
    by_cases e2 : q.1 = 2
    · obtain ⟨a1, a2, s, o, a3, a4, a5, a6, a7, a8, a9⟩ := pr_rn h hT hq hp e2
      have e3 : q.2.1 ≠ pLf r ↔ ¬ p.2.1 = i := by
        refine not_congr ⟨fun z => ?_, fun z => ?_⟩
        · rw [z, hown] at a9; exact (Option.some.inj a9).symm
        · rw [z, hr] at a3; cases a3; exact a6.symm
      have e4 := h.rmB q.2.1
      by_cases c : q.2.1 ≠ pLf r ∧ ¬ rmB (zRs C) q.2.1 = true
      · have eK : rnw1 (zRs C) (pLf r) (rnK (zRs C) (pLf r) T k) q = blkF (setN (rnK (zRs C) (pLf r) T k) (2 * q.2.1) q.2.2) (inW (rnK (zRs C) (pLf r) T k).1 q.2.1) := by
          unfold rnw1; rw [if_pos ⟨e2, c⟩]; rfl
        have eM := rnM1_y (T := rnM (dRs D) (dPs D) i (eTr Ep) k) a4 a1 (e3.mp c.1) (by rw [a7, ← e4]; exact c.2)
        rw [eK, eM, a7, ← g1.1]
        exact ⟨(g1.stN _ a2).blF _, rn_step g2 (by rw [a9]; simp) (by rw [← mem_at3 e2]; exact List.mem_of_getElem? hq) c.1⟩
      · have eK : rnw1 (zRs C) (pLf r) (rnK (zRs C) (pLf r) T k) q = rnK (zRs C) (pLf r) T k := by
          unfold rnw1; rw [if_neg fun z => c z.2]
        have eM : rnM1 (dRs D) (dPs D) i (rnM (dRs D) (dPs D) i (eTr Ep) k) p = rnM (dRs D) (dPs D) i (eTr Ep) k := by
          unfold rnM1; rw [a4]
          exact if_neg fun z => c ⟨e3.mpr z.2.1, by rw [e4, ← a7]; exact z.2.2⟩
        rw [eK, eM]; exact ⟨g1, g2⟩
    · have eK : rnw1 (zRs C) (pLf r) (rnK (zRs C) (pLf r) T k) q = rnK (zRs C) (pLf r) T k := by
        unfold rnw1; rw [if_neg fun z => e2 z.1]
      have eM := rnM1_n (Rs := dRs D) (Ps := dPs D) (i := i) (T := rnM (dRs D) (dPs D) i (eTr Ep) k) (q := p) (fun z => by
        rcases hPQ.k with ⟨_, b, _⟩ | ⟨_, b, _⟩ | ⟨b, _⟩
        · have := z.1; omega
        · have := z.1; omega
        · exact e2 b)
      rw [eK, eM]; exact ⟨g1, g2⟩
/-- open packages are closed -/
theorem cls_at : ∀ (ids : List Nat) (Ks : List PkS), ids.Nodup → (∀ k ∈ ids, k < Ks.length) → (clsF ids Ks).1 = ids.filter (fun k => !opnK Ks k) ∧ (clsF ids Ks).2.length = Ks.length ∧ ∀ k, (clsF ids Ks).2[k]? = (Ks[k]?).map fun q => if k ∈ ids ∧ q.2.2.2.2.2 = true then shtP q else q
  | [], Ks, _, _ => ⟨rfl, rfl, fun k => by
      show Ks[k]? = _
      cases Ks[k]? with
      | none => rfl
      | some q => show some q = some (if k ∈ ([] : List Nat) ∧ q.2.2.2.2.2 = true then shtP q else q); rw [if_neg]; rintro ⟨z, -⟩; cases z⟩
  | a :: t, Ks, hnd, hb => by
    have hnd2 := List.nodup_cons.mp hnd
    obtain ⟨q, hq⟩ := get_ex (hb a List.mem_cons_self)
    by_cases e : q.2.2.2.2.2 = true
    · have e0 := clsF_o (t := t) hq e
      obtain ⟨h1, h2, h3⟩ := cls_at t (Ks.set a (shtP q)) hnd2.2 (fun k hk => by rw [List.length_set]; exact hb k (List.mem_cons_of_mem _ hk))
      rw [e0]
      refine ⟨?_, by rw [h2, List.length_set], fun k => ?_⟩
      · rw [h1, List.filter_cons_of_neg (by rw [opnK_e hq, e]; simp)]
        refine List.filter_congr fun k hk => ?_
        have : k ≠ a := fun z => hnd2.1 (by rw [← z]; exact hk)
        unfold opnK
        rw [List.getElem?_set_ne (Ne.symm this)]
      · rw [h3]
        by_cases e2 : k = a
        · rw [e2, hq, List.getElem?_set_self (get_lt2 hq)]
          show some (if a ∈ t ∧ (shtP q).2.2.2.2.2 = true then _ else shtP q) = some (if a ∈ a :: t ∧ q.2.2.2.2.2 = true then shtP q else q)
          rw [if_neg (fun z => hnd2.1 z.1), if_pos ⟨List.mem_cons_self, e⟩]
        · rw [List.getElem?_set_ne (Ne.symm e2)]
          cases Ks[k]? with
          | none => rfl
          | some z =>
            show some (if k ∈ t ∧ z.2.2.2.2.2 = true then shtP z else z) = some (if k ∈ a :: t ∧ z.2.2.2.2.2 = true then shtP z else z)
            by_cases e3 : k ∈ t ∧ z.2.2.2.2.2 = true
            · rw [if_pos e3, if_pos ⟨List.mem_cons_of_mem _ e3.1, e3.2⟩]
            · rw [if_neg e3, if_neg fun w => e3 ⟨(List.mem_cons.mp w.1).resolve_left e2, w.2⟩]
    · obtain ⟨h1, h2, h3⟩ := cls_at t Ks hnd2.2 (fun k hk => hb k (List.mem_cons_of_mem _ hk))
      have e0 : clsF (a :: t) Ks = (a :: (clsF t Ks).1, (clsF t Ks).2) := by rw [clsF, opnK_e hq, if_neg e]
      rw [e0]
      refine ⟨?_, h2, fun k => ?_⟩
      · show a :: (clsF t Ks).1 = _
        rw [h1, List.filter_cons_of_pos (by rw [opnK_e hq]; simpa using e)]
      · show (clsF t Ks).2[k]? = _
        rw [h3]
        cases e4 : Ks[k]? with
        | none => rfl
        | some z =>
          show some (if k ∈ t ∧ z.2.2.2.2.2 = true then shtP z else z) = some (if k ∈ a :: t ∧ z.2.2.2.2.2 = true then shtP z else z)
          by_cases e3 : k ∈ t ∧ z.2.2.2.2.2 = true
          · rw [if_pos e3, if_pos ⟨List.mem_cons_of_mem _ e3.1, e3.2⟩]
          · rw [if_neg e3, if_neg]
            rintro ⟨w1, w2⟩
            rcases List.mem_cons.mp w1 with z2 | z2
            · rw [z2, hq] at e4; cases e4; exact e w2
            · exact e3 ⟨z2, w2⟩
theorem gn_at {p : Nat} {Ms : List MkS} {k : Nat} : (Ms.map (gnP p))[k]? = (Ms[k]?).map (gnP p) := List.getElem?_map ..
theorem pks_gn {ss tt : List Sec} {Ks : List PkS} {Ms : List MkS} (hK : LQ (fun _ => PkQ ss tt) Ks Ms) (p : Nat) : pksM (Ms.map (gnP p)) p = (pksM Ms p).filter (fun k => !opnK Ks k) := by
  unfold pksM
  rw [List.length_map, List.filter_filter]
  refine List.filter_congr fun k hk => ?_
  obtain ⟨m, hm⟩ := get_ex (List.mem_range.mp hk)
  obtain ⟨q, hq, hPQ⟩ := hK.r hm
  rw [gn_at, hm, opnK_e hq, hPQ.2.2.2.2.1]
  show (match some (gnP p m) with | none => false | some q => q.1 == p && !q.2.2.2.2) = ((!(m.2.2.2.1 && !m.2.2.2.2)) && (m.1 == p && !m.2.2.2.2))
  show ((gnP p m).1 == p && !(gnP p m).2.2.2.2) = _
  unfold gnP
  by_cases e : m.1 = p ∧ m.2.2.2.1 = true
  · rw [if_pos e]
    cases e3 : m.2.2.2.2 <;> simp [e.1, e.2]
  · rw [if_neg e]
    by_cases e2 : m.1 = p
    · have e3 : m.2.2.2.1 = false := by
        cases e4 : m.2.2.2.1 with
        | true => exact absurd ⟨e2, e4⟩ e
        | false => rfl
      simp [e2, e3]
    · simp [e2]
theorem pks_gn2 {Ms : List MkS} {p j : Nat} (h : j ≠ p) : pksM (Ms.map (gnP p)) j = pksM Ms j := by
  unfold pksM
  rw [List.length_map]
  refine List.filter_congr fun k hk => ?_
  obtain ⟨m, hm⟩ := get_ex (List.mem_range.mp hk)
  rw [gn_at, hm]
  show ((gnP p m).1 == j && !(gnP p m).2.2.2.2) = (m.1 == j && !m.2.2.2.2)
  unfold gnP
  by_cases e : m.1 = p ∧ m.2.2.2.1 = true
  · rw [if_pos e]
    have : ¬ m.1 = j := fun z => h (by rw [← z]; exact e.1)
    simp [this]
  · rw [if_neg e]
theorem gn_q {ss tt : List Sec} {Ks : List PkS} {Ms : List MkS} (hK : LQ (fun _ => PkQ ss tt) Ks Ms) (p : Nat) : LQ (fun _ => PkQ ss tt) (clsF (pksM Ms p) Ks).2 (Ms.map (gnP p)) := by
  obtain ⟨h1, h2, h3⟩ := cls_at (pksM Ms p) Ks (pksM_nd Ms p) (fun k hk => by
    obtain ⟨m, hm, -⟩ := pksM_m.mp hk
    rw [hK.1]; exact get_lt2 hm)
  refine ⟨by rw [h2, List.length_map, hK.1], fun k q m hq hm => ?_⟩
  rw [gn_at] at hm
  cases e1 : Ms[k]? with
  | none => rw [e1] at hm; cases hm
  | some m0 =>
    obtain ⟨q0, hq0, hPQ⟩ := hK.r e1
    rw [e1] at hm
    have hm : gnP p m0 = m := Option.some.inj hm
    rw [h3, hq0] at hq
    have hq : (if k ∈ pksM Ms p ∧ q0.2.2.2.2.2 = true then shtP q0 else q0) = q := Option.some.inj hq
    have hmem : k ∈ pksM Ms p ↔ m0.1 = p ∧ ¬ m0.2.2.2.2 = true := by
      rw [pksM_m]
      exact ⟨fun ⟨z, z1, z2, z3⟩ => by rw [e1] at z1; cases z1; exact ⟨z2, z3⟩, fun z => ⟨m0, e1, z.1, z.2⟩⟩
    subst hq hm
    unfold gnP
    obtain ⟨w1, w2, w3, w4, w5, w6⟩ := hPQ
    by_cases e : m0.1 = p ∧ m0.2.2.2.1 = true
    · rw [if_pos e]
      by_cases e2 : k ∈ pksM Ms p ∧ q0.2.2.2.2.2 = true
      · rw [if_pos e2]; exact ⟨w1, w2, w3, w4, by simp [shtP], fun _ => e.2⟩
      · rw [if_neg e2]
        refine ⟨w1, w2, w3, w4, ?_, fun _ => e.2⟩
        show q0.2.2.2.2.2 = (m0.2.2.2.1 && !true)
        have : ¬ q0.2.2.2.2.2 = true := by
          intro z
          have z2 := z
          rw [w5] at z2
          rw [hmem] at e2
          refine e2 ⟨⟨e.1, ?_⟩, z⟩
          intro z3; rw [z3] at z2; simp at z2
        simpa using this
    · rw [if_neg e]
      by_cases e2 : k ∈ pksM Ms p ∧ q0.2.2.2.2.2 = true
      · exfalso
        have e3 := hmem.mp e2.1
        have e4 := e2.2
        rw [w5] at e4
        rw [Bool.and_eq_true] at e4
        exact e ⟨e3.1, e4.1⟩
      · rw [if_neg e2]; exact ⟨w1, w2, w3, w4, w5, w6⟩
