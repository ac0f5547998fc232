set_option maxRecDepth 100000
/-! ===== a commit: the stages, together ===== -/
/-- the stages of a commit -/
def CmA (C : KsS) (D : MdS) (i : Nat) (r : PeS) (q : MpS) (T : TrS) (Ep : MeS) (e : Nat) (T1 U1 T2 : TrS) (Ps2 : List PeS) (Ks2 : List PkS) (U2 : TrS) (rm2 : Nat → Bool) (Ms2 : List MkS) (T4 : TrS) (Ks3 : List PkS) (fr : Nat) (ids : List Nat) (U4 : TrS) (Ms3 : List MkS) (pk : Nat → Option Nat) : Prop :=
    ((zTs C)[(zTs C).length - 1]? = some T ∧ (dEs D)[(dEs D).length - 1]? = some Ep ∧ pEp r = some e ∧ e + 1 = (zTs C).length ∧ TrI T ∧ TrQ (zSs C) (dSs D) T (eTr Ep) ∧ T.2.2.2 (pLf r) = some i ∧ EpQ C D e T Ep ∧ PeI (zSs C) (dSs D) (zTs C) (dEs D) i r q e) ∧
    (rnK (zRs C) (pLf r) T (zRs C).length = T1 ∧ rnM (dRs D) (dPs D) i (eTr Ep) (dRs D).length = U1 ∧ TrQ (zSs C) (dSs D) T1 U1 ∧ Rn (zRs C) (pLf r) T T1) ∧
    (rmK (zRs C) (T1, zPs C, zKs C) (zRs C).length = (T2, Ps2, Ks2) ∧ rmM (dRs D) (U1, fun _ => false, dKs D) (dRs D).length = (U2, rm2, Ms2) ∧ TrQ (zSs C) (dSs D) T2 U2 ∧ St T1 T2 rm2 (fun _ => none) ∧ LQ (fun _ => PkQ (zSs C) (dSs D)) Ks2 Ms2 ∧ PsQ Ms2 (zPs C) Ps2 ∧ KdQ T1 rm2 (zKs C) Ks2 ∧ (∀ l, rm2 l = true ↔ ∃ j q, j < (zRs C).length ∧ (zRs C)[j]? = some q ∧ q.1 = 1 ∧ q.2.1 = l) ∧ pksM Ms2 i = pksM (dKs D) i ∧ Ps2[i]? = some r) ∧
    (adK (zTs C).length (zRs C) (hlv T2, Ks2, 0, []) (zRs C).length = (T4, Ks3, fr, ids) ∧ adM (dRs D) (hlv U2, Ms2, fun _ => none) (dRs D).length = (U4, Ms3, pk) ∧ AdI C D T1 (hlv T2) (hlv U2) rm2 Ks2 Ms2 (zRs C).length (T4, Ks3, fr, ids) (U4, Ms3, pk)) ∧
    (∀ (k : Nat) (q : PrS), (zRs C)[k]? = some q → q.1 = 1 → q.2.1 < 2 ^ T.1 ∧ ∃ (p : Nat) (o : PeS), (rmK (zRs C) (T1, zPs C, zKs C) k).1.2.2.2 q.2.1 = some p ∧ (rmK (zRs C) (T1, zPs C, zKs C) k).2.1[p]? = some o ∧ ∀ j ∈ pPk o, j < (zKs C).length) ∧
    (∀ (k : Nat) (q : MrS), (dRs D)[k]? = some q → q.1 = 114 → q.2.2 < 2 ^ U1.1 ∧ ∃ p, (rmM (dRs D) ((U1, fun _ => false, dKs D) : RnS) k).1.2.2.2 q.2.2 = some p) ∧
    (∀ k, k ≤ (zRs C).length → TrI (adK (zTs C).length (zRs C) (hlv T2, Ks2, 0, []) k).1 ∧ TrQ (zSs C) (dSs D) (adK (zTs C).length (zRs C) (hlv T2, Ks2, 0, []) k).1 (adM (dRs D) (hlv U2, Ms2, fun _ => none) k).1)
theorem cm_a {C : KsS} {D : MdS} (h : Inv C D) (hC : KsB C) {i : Nat} {r : PeS} {q : MpS} (hr : (zPs C)[i]? = some r) (hq : (dPs D)[i]? = some q) (hf : isF (zTs C).length (pEp r) = true) (hnr : ¬ rmB (zRs C) (pLf r) = true) : ∃ (T : TrS) (Ep : MeS) (e : Nat) (T1 U1 T2 : TrS) (Ps2 : List PeS) (Ks2 : List PkS) (U2 : TrS) (rm2 : Nat → Bool) (Ms2 : List MkS) (T4 : TrS) (Ks3 : List PkS) (fr : Nat) (ids : List Nat) (U4 : TrS) (Ms3 : List MkS) (pk : Nat → Option Nat), CmA C D i r q T Ep e T1 U1 T2 Ps2 Ks2 U2 rm2 Ms2 T4 Ks3 fr ids U4 Ms3 pk := by
  obtain ⟨⟨hw, hev, hnd⟩, hrn, hch, hhe⟩ := h.2.2.2.2.2.2.2.2.2.2.1.2 i r q hr hq
  obtain ⟨e, he, hel⟩ := isF_ln hf
  have hpi := hw.2.2.2.2.2 e he
  obtain ⟨T, Ep, b1, b2, b3, b4, b5⟩ := id hpi
  have hTl : (zTs C)[(zTs C).length - 1]? = some T := by rw [show (zTs C).length - 1 = e by omega]; exact b1
  have hdl := h.ln.2.2.2.1
  have hEl : (dEs D)[(dEs D).length - 1]? = some Ep := by rw [show (dEs D).length - 1 = e by omega]; exact b2
  have hEQ := h.2.2.2.2.2.2.2.2.1.2 e T Ep b1 b2
  have hI := hEQ.2.1.1
  have hQ := hEQ.2.2.1
  have hp4 := p2_4 hI.1
  have hlR := h.ln.2.2.1
  obtain ⟨g1, g2⟩ := rn_run h hr hf hTl hI hQ b3 (zRs C).length (Nat.le_refl _)
  rw [← hlR] at g1 g2
  generalize hT1 : rnK (zRs C) (pLf r) T (dRs D).length = T1 at *
  generalize hU1 : rnM (dRs D) (dPs D) i (eTr Ep) (dRs D).length = U1 at *
  have hP1 := g2.2.2.1
  have hrm := fun k (hk : k ≤ (zRs C).length) => rm_run h hTl g1 g2.1 hP1 k hk
  have hrmL := hrm (zRs C).length (Nat.le_refl _)
  have hpkL := rm_pk h (i := i) hTl g1 g2.1 hP1 (zRs C).length (Nat.le_refl _)
  unfold RmI at hrmL
  obtain ⟨T2, Ps2, Ks2, hS2⟩ : ∃ T2 Ps2 Ks2, rmK (zRs C) (T1, zPs C, zKs C) (zRs C).length = (T2, Ps2, Ks2) := ⟨_, _, _, rfl⟩
  obtain ⟨U2, rm2, Ms2, hV2⟩ : ∃ U2 rm2 Ms2, rmM (dRs D) (U1, fun _ => false, dKs D) (zRs C).length = (U2, rm2, Ms2) := ⟨_, _, _, rfl⟩
  rw [hS2, hV2] at hrmL
  rw [hV2] at hpkL
  obtain ⟨m1, m2, m3, m4, m5, m6, m7⟩ := hrmL
  have hown1 : T1.2.2.2 (pLf r) = some i := by rw [hP1]; exact b3
  have hro : ¬ rm2 (pLf r) = true := by
    intro z
    obtain ⟨j, a, -, a2, a3, a4⟩ := (m6 _).mp z
    refine hnr ?_
    unfold rmB
    rw [List.any_eq_true]
    exact ⟨a, List.mem_of_getElem? a2, by simp [a3, a4]⟩
  have hpkL := hpkL fun l hl z => hro (by
    have : l = pLf r := g2.1.2.2.2.1 l _ i z hown1
    rw [← this]; exact hl)
  have hPi : Ps2[i]? = some r := by
    obtain ⟨z, hz, hze⟩ := m4.l hr
    rw [hz, hze]
    have hpkL : pksM Ms2 i = pksM (dKs D) i := hpkL
    rw [hpkL, ← hw.2.2.2.1]
  have had := fun k (hk : k ≤ (zRs C).length) => ad_run h hC hTl hP1 m1.hv (st_hlv m2) m3 m5 k hk
  have hadL := had (zRs C).length (Nat.le_refl _)
  obtain ⟨T4, Ks3, fr, ids, hS4⟩ : ∃ T4 Ks3 fr ids, adK (zTs C).length (zRs C) (hlv T2, Ks2, 0, []) (zRs C).length = (T4, Ks3, fr, ids) := ⟨_, _, _, _, rfl⟩
  obtain ⟨U4, Ms3, pk, hV4⟩ : ∃ U4 Ms3 pk, adM (dRs D) (hlv U2, Ms2, fun _ => none) (zRs C).length = (U4, Ms3, pk) := ⟨_, _, _, rfl⟩
  rw [hS4, hV4] at hadL
  refine ⟨T, Ep, e, T1, U1, T2, Ps2, Ks2, U2, rm2, Ms2, T4, Ks3, fr, ids, U4, Ms3, pk, ⟨hTl, hEl, he, hel, hI, hQ, b3, hEQ, hpi⟩, ⟨by rw [← hlR]; exact hT1, hU1, g1, g2⟩, ⟨hS2, by rw [hlR]; exact hV2, m1, m2, m3, m4, m5, m6, hpkL, hPi⟩, ⟨hS4, by rw [hlR]; exact hV4, hadL⟩, fun k a ha h1 => ?_, fun k a ha h1 => ?_, fun k hk => ⟨(had k hk).2.1.1, (had k hk).1⟩⟩
  · have hk := get_lt2 ha
    obtain ⟨n1_, n2_, n3_, n4_, n5_, n6_, n7_⟩ := hrm k (by omega)
    obtain ⟨p, hp, -⟩ := h.2.2.2.2.2.2.2.1.l ha
    obtain ⟨-, -, j, hj⟩ := pr_rm h hTl ha hp h1
    refine ⟨lf_of hI (by rw [hj]; simp), j, ?_⟩
    have hnR : ¬ (rmM (dRs D) (U1, fun _ => false, dKs D) k).2.1 a.2.1 = true := by
      rw [n6_]
      rintro ⟨j2, q2, hj2, hq2, c1, c2⟩
      exact h.2.2.2.2.2.2.2.2.2.2.2.2.2.2.2.1.1 j2 k q2 a hj2 hq2 ha c1 h1 c2
    have a4 := n2_.2.2.2.2.1 a.2.1 j (by rw [hP1]; exact hj) hnR
    obtain ⟨s, hs⟩ := get_ex (h.tp hTl hj)
    obtain ⟨s2, hs2, hse⟩ := n4_.l hs
    refine ⟨s2, a4, hs2, fun x hx => ?_⟩
    have hx : x ∈ pksM (rmM (dRs D) (U1, fun _ => false, dKs D) k).2.2 j := by rw [hse] at hx; exact hx
    obtain ⟨mm, hmm, -⟩ := pksM_m.mp hx
    have := get_lt2 hmm
    rw [← n3_.1, ← n5_.1] at this
    exact this
  · have hk := get_lt2 ha
    obtain ⟨n1_, n2_, n3_, n4_, n5_, n6_, n7_⟩ := hrm k (by omega)
    obtain ⟨p, hp, hPQ⟩ := h.2.2.2.2.2.2.2.1.r ha
    have h2 : p.1 = 1 := by
      rcases hPQ.k with ⟨_, b, _⟩ | ⟨b, _, _⟩ | ⟨_, b, _⟩
      · omega
      · exact b
      · omega
    obtain ⟨-, c2, j, hj⟩ := pr_rm h hTl hp ha h2
    have hnR : ¬ (rmM (dRs D) (U1, fun _ => false, dKs D) k).2.1 p.2.1 = true := by
      rw [n6_]
      rintro ⟨j2, q2, hj2, hq2, c1, c2⟩
      exact h.2.2.2.2.2.2.2.2.2.2.2.2.2.2.2.1.1 j2 k q2 p hj2 hq2 hp c1 h2 c2
    have a4 := n2_.2.2.2.2.1 p.2.1 j (by rw [hP1]; exact hj) hnR
    refine ⟨?_, j, by rw [c2, ← n1_.2.2.2]; exact a4⟩
    rw [c2, ← g1.1, g2.2.1]
    exact lf_of hI (by rw [hj]; simp)
