set_option maxRecDepth 100000
/-! ===== the stages of a commit: removals and additions on both sides ===== -/
/-- the persons, when packages are gone -/
def PsQ (Ms : List MkS) (Ps Qs : List PeS) : Prop := LQ (fun j r q => q = ((pNo r, pEv r, pksM Ms j, pEp r, pLf r, pNd r, pOn r, pKy r, pCh r, pRn r) : PeS)) Ps Qs
/-- the packages, when some are closed -/
def KdQ (T1 : TrS) (R : Nat → Bool) (Ks Ls : List PkS) : Prop := LQ (fun _ q p => p.1 = q.1 ∧ p.2.1 = q.2.1 ∧ p.2.2.1 = q.2.2.1 ∧ p.2.2.2.1 = q.2.2.2.1 ∧ p.2.2.2.2.1 = q.2.2.2.2.1 ∧ (p.2.2.2.2.2 = true → q.2.2.2.2.2 = true ∧ ∀ l, R l = true → T1.2.2.2 l ≠ some q.1)) Ks Ls
theorem pr_rm {C : KsS} {D : MdS} (h : Inv C D) {T : TrS} (hT : (zTs C)[(zTs C).length - 1]? = some T) {k : Nat} {q : PrS} {p : MrS} (hq : (zRs C)[k]? = some q) (hp : (dRs D)[k]? = some p) (h2 : q.1 = 1) : p.1 = 114 ∧ p.2.2 = q.2.1 ∧ ∃ i, T.2.2.2 q.2.1 = some i := by
  obtain ⟨T2, hT2, hlt, w⟩ := h.2.2.2.2.2.2.2.1.2 k q p hq hp
  rw [hT] at hT2; cases hT2
  rcases w with ⟨w, -⟩ | ⟨-, w2, w3, w4⟩ | ⟨w, -⟩
  · omega
  · exact ⟨w2, w3, w4⟩
  · omega
theorem Inv.tp {C : KsS} {D : MdS} (h : Inv C D) {k : Nat} {T : TrS} (hT : (zTs C)[k]? = some T) {l p : Nat} (hl : T.2.2.2 l = some p) : p < (zPs C).length := by
  obtain ⟨E, hE, hQ⟩ := h.2.2.2.2.2.2.2.2.1.l hT
  exact hQ.2.1.2 l p hl
def RmI (C : KsS) (D : MdS) (T1 U1 : TrS) (k : Nat) : Prop :=
  TrQ (zSs C) (dSs D) (rmK (zRs C) (T1, zPs C, zKs C) k).1 (rmM (dRs D) (U1, fun _ => false, dKs D) k).1 ∧
  St T1 (rmK (zRs C) (T1, zPs C, zKs C) k).1 (rmM (dRs D) (U1, fun _ => false, dKs D) k).2.1 (fun _ => none) ∧
  LQ (fun _ => PkQ (zSs C) (dSs D)) (rmK (zRs C) (T1, zPs C, zKs C) k).2.2 (rmM (dRs D) (U1, fun _ => false, dKs D) k).2.2 ∧
  PsQ (rmM (dRs D) (U1, fun _ => false, dKs D) k).2.2 (zPs C) (rmK (zRs C) (T1, zPs C, zKs C) k).2.1 ∧
  KdQ T1 (rmM (dRs D) (U1, fun _ => false, dKs D) k).2.1 (zKs C) (rmK (zRs C) (T1, zPs C, zKs C) k).2.2 ∧
  (∀ l, (rmM (dRs D) (U1, fun _ => false, dKs D) k).2.1 l = true ↔ ∃ j q, j < k ∧ (zRs C)[j]? = some q ∧ q.1 = 1 ∧ q.2.1 = l) ∧
  (rmK (zRs C) (T1, zPs C, zKs C) k).1.1 = T1.1
theorem rm_run {C : KsS} {D : MdS} (h : Inv C D) {T T1 U1 : TrS} (hT : (zTs C)[(zTs C).length - 1]? = some T) (hQ : TrQ (zSs C) (dSs D) T1 U1) (hI : TrI T1) (hP : ∀ l, T1.2.2.2 l = T.2.2.2 l) : ∀ k, k ≤ (zRs C).length → RmI C D T1 U1 k
  | 0, _ => by
    refine ⟨hQ, St.rfl hI, h.kk, ⟨rfl, fun j r q hr hq => ?_⟩, ⟨rfl, fun j q p hq hp => ?_⟩, fun l => ⟨fun z => Bool.noConfusion z, fun ⟨j, _, hj, _⟩ => absurd hj (Nat.not_lt_zero j)⟩, rfl⟩
    · have hq : (zPs C)[j]? = some q := hq
      rw [hr] at hq
      have hq := Option.some.inj hq
      obtain ⟨z, -, ⟨hw, -⟩, -⟩ := h.2.2.2.2.2.2.2.2.2.2.1.l hr
      show q = (pNo r, pEv r, pksM (dKs D) j, pEp r, pLf r, pNd r, pOn r, pKy r, pCh r, pRn r)
      rw [← hq, ← hw.2.2.2.1]
    · have hp : (zKs C)[j]? = some p := hp
      rw [hq] at hp; cases hp
      exact ⟨rfl, rfl, rfl, rfl, rfl, fun z => ⟨z, fun l z => Bool.noConfusion z⟩⟩
  | k + 1, hk => by
    obtain ⟨g1, g2, g3, g4, g5, g6, g7⟩ := rm_run h hT hQ hI hP k (by omega)
    obtain ⟨q, hq⟩ := get_ex (xs := zRs C) (i := k) (by omega)
    obtain ⟨p, hp, hPQ⟩ := h.2.2.2.2.2.2.2.1.l hq
    unfold RmI
    have eKs : rmK (zRs C) (T1, zPs C, zKs C) (k + 1) = rmv1 (rmK (zRs C) (T1, zPs C, zKs C) k) q := rmK_s hq
    have eMs : rmM (dRs D) (U1, fun _ => false, dKs D) (k + 1) = rmM1 (rmM (dRs D) (U1, fun _ => false, dKs D) k) p := fold_tk hp
    rw [eKs, eMs]
    generalize hS : rmK (zRs C) (T1, zPs C, zKs C) k = S at *
    generalize hV : rmM (dRs D) (U1, fun _ => false, dKs D) k = V at *
    by_cases e2 : q.1 = 1
    · obtain ⟨a1, a2, i, a3⟩ := pr_rm h hT hq hp e2
      rw [← hP] at a3
      have hnR : ¬ V.2.1 q.2.1 = true := by
        rw [g6]
        rintro ⟨j, q2, hj, hq2, b1, b2⟩
        exact h.2.2.2.2.2.2.2.2.2.2.2.2.2.2.2.1.1 j k q2 q hj hq2 hq b1 e2 b2
      have a4 := g2.2.2.2.2.1 q.2.1 i a3 hnR
      have a5 : V.1.2.2.2 p.2.2 = some i := by rw [a2, ← g1.2.2.2]; exact a4
      have hip : i < (zPs C).length := by
        rw [hP] at a3; exact h.tp hT a3
      obtain ⟨s, hs⟩ := get_ex hip
      obtain ⟨s2, hs2, hse⟩ := g4.l hs
      have eK : rmv1 S q = (remT S.1 q.2.1, S.2.1.set i (clsP s2 S.2.2), (clsF (pPk s2) S.2.2).2) := by
        unfold rmv1; rw [if_pos e2, a4]
        show (match S.2.1[i]? with | none => S | some q_1 => _) = _
        rw [hs2]
      have eM : rmM1 V p = (remT V.1 p.2.2, fup V.2.1 p.2.2 true, V.2.2.map (gnP i)) := by unfold rmM1; rw [if_pos a1, a5]
      have hpp : pPk s2 = pksM V.2.2 i := by rw [hse]
      rw [eK, eM, hpp, a2]
      obtain ⟨c1, c2, c3⟩ := cls_at (pksM V.2.2 i) S.2.2 (pksM_nd V.2.2 i) (fun x hx => by
        obtain ⟨m, hm, -⟩ := pksM_m.mp hx
        rw [g3.1]; exact get_lt2 hm)
      refine ⟨g1.rem _, st_rem g2 a4, gn_q g3 i, ?_, ?_, fun l => ?_, g7⟩
      · refine ⟨by show _ = (S.2.1.set i _).length; rw [List.length_set]; exact g4.1, fun j r z hr hz => ?_⟩
        show z = (pNo r, pEv r, pksM (V.2.2.map (gnP i)) j, pEp r, pLf r, pNd r, pOn r, pKy r, pCh r, pRn r)
        rcases set_cases hz with ⟨rfl, rfl⟩ | ⟨ej, hz⟩
        · rw [hs] at hr; cases hr
          unfold clsP
          rw [hpp, c1, hse, pks_gn g3]
        · have := g4.2 j r z hr hz
          rw [this, pks_gn2 ej]
      · refine ⟨by rw [c2]; exact g5.1, fun x z y hz hy => ?_⟩
        have hy : (clsF (pksM V.2.2 i) S.2.2).2[x]? = some y := hy
        rw [c3] at hy
        obtain ⟨y0, hy0, hR⟩ := g5.l hz
        rw [hy0] at hy
        have hy : (if x ∈ pksM V.2.2 i ∧ y0.2.2.2.2.2 = true then shtP y0 else y0) = y := Option.some.inj hy
        by_cases e3 : x ∈ pksM V.2.2 i ∧ y0.2.2.2.2.2 = true
        · rw [if_pos e3] at hy
          subst hy
          exact ⟨hR.1, hR.2.1, hR.2.2.1, hR.2.2.2.1, hR.2.2.2.2.1, fun w => Bool.noConfusion w⟩
        · rw [if_neg e3] at hy
          subst hy
          refine ⟨hR.1, hR.2.1, hR.2.2.1, hR.2.2.2.1, hR.2.2.2.2.1, fun w => ⟨(hR.2.2.2.2.2 w).1, fun l hl => ?_⟩⟩
          have hl : fup V.2.1 q.2.1 true l = true := hl
          unfold fup at hl
          by_cases e4 : l = q.2.1
          · rw [e4, a3]
            intro w2
            have w2 := Option.some.inj w2
            obtain ⟨m, hm, hPm⟩ := g3.l hy0
            refine e3 ⟨pksM_m.mpr ⟨m, hm, by rw [← hPm.1, hR.1]; exact w2.symm, fun w3 => ?_⟩, w⟩
            have := hPm.2.2.2.2.1
            rw [w, w3] at this
            simp at this
          · rw [if_neg e4] at hl
            exact (hR.2.2.2.2.2 w).2 l hl
      · show fup V.2.1 q.2.1 true l = true ↔ _
        unfold fup
        by_cases e4 : l = q.2.1
        · rw [if_pos e4]
          exact ⟨fun _ => ⟨k, q, by omega, hq, e2, e4.symm⟩, fun _ => rfl⟩
        · rw [if_neg e4, g6]
          constructor
          · rintro ⟨j, q2, b1, b2⟩; exact ⟨j, q2, by omega, b2⟩
          · rintro ⟨j, q2, b1, b2, b3, b4⟩
            refine ⟨j, q2, ?_, b2, b3, b4⟩
            rcases Nat.lt_or_ge j k with z | z
            · exact z
            · have : j = k := by omega
              rw [this, hq] at b2; cases b2
              exact absurd b4.symm e4
    · have eK : rmv1 S q = S := by unfold rmv1; rw [if_neg e2]
      have eM : rmM1 V p = V := by
        unfold rmM1; rw [if_neg]
        intro z
        rcases hPQ.k with ⟨_, b, _⟩ | ⟨b, _, _⟩ | ⟨_, b, _⟩
        · omega
        · exact e2 b
        · omega
      rw [eK, eM]
      refine ⟨g1, g2, g3, g4, g5, fun l => ?_, g7⟩
      rw [g6]
      constructor
      · rintro ⟨j, q2, b1, b2⟩; exact ⟨j, q2, by omega, b2⟩
      · rintro ⟨j, q2, b1, b2, b3, b4⟩
        refine ⟨j, q2, ?_, b2, b3, b4⟩
        rcases Nat.lt_or_ge j k with z | z
        · exact z
        · have : j = k := by omega
          rw [this, hq] at b2; cases b2
          exact absurd b3 e2
