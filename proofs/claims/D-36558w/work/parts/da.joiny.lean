set_option maxRecDepth 100000
/-! ===== joining: what is wanted ===== -/
theorem pw_set {C : KsS} {D : MdS} {i kk : Nat} {qm : MkS} {r : PeS} {z : MpS} {j : Nat} (hqm : (dKs D)[kk]? = some qm) (hi : qm.1 = i) (hj : j ≠ i) (h : PeW (zSs C) (dSs D) (zTs C) (dEs D) (dKs D) j r z) : PeW (zSs C) (dSs D) (zTs C) (dEs D) ((dKs D).set kk ((qm.1, qm.2.1, qm.2.2.1, qm.2.2.2.1, true) : MkS)) j r z := by
  refine ⟨h.1, h.2.1, h.2.2.1, ?_, h.2.2.2.2⟩
  rw [pksM_set (q2 := ((qm.1, qm.2.1, qm.2.2.1, qm.2.2.2.1, true) : MkS)) hqm rfl rfl, if_neg (by rw [hi]; exact Ne.symm hj)]
  exact h.2.2.2.1
theorem jn_ps {C : KsS} {D : MdS} (h : Inv C D) {i kk : Nat} {q : PkS} {qm : MkS} {r2 : PeS} {q2 : MpS} (hq : (zKs C)[kk]? = some q) (hqm : (dKs D)[kk]? = some qm) (hi : qm.1 = i) (hw : PeW (zSs C) (dSs D) (zTs C) (dEs D) ((dKs D).set kk ((qm.1, qm.2.1, qm.2.2.1, qm.2.2.2.1, true) : MkS)) i r2 q2) (hev : evOk (zSs C) (dSs D) ((zKs C).set kk (shtP q)) r2 q2) : LQ (fun j r z => PeW (zSs C) (dSs D) (zTs C) (dEs D) ((dKs D).set kk ((qm.1, qm.2.1, qm.2.2.1, qm.2.2.2.1, true) : MkS)) j r z ∧ evOk (zSs C) (dSs D) ((zKs C).set kk (shtP q)) r z) ((zPs C).set i r2) ((dPs D).set i q2) := by
  have hP := h.2.2.2.2.2.2.2.2.2.2.1
  have hP2 : LQ (fun j r z => (j ≠ i → PeW (zSs C) (dSs D) (zTs C) (dEs D) ((dKs D).set kk ((qm.1, qm.2.1, qm.2.2.1, qm.2.2.2.1, true) : MkS)) j r z) ∧ evOk (zSs C) (dSs D) ((zKs C).set kk (shtP q)) r z) (zPs C) (dPs D) := by
    refine hP.imp fun k r z _ _ y => ?_
    obtain ⟨⟨z1, z2, z3⟩, z4, z5, z6⟩ := y
    exact ⟨fun hj => pw_set hqm hi hj z1, evOk.old z2 z3 fun x hx => z6 x ((hel_set hq).mp hx)⟩
  refine (hP2.set (i := i) (x := r2) (y := q2) ⟨fun z => absurd rfl z, hev⟩).imp fun k r z hr hz y => ⟨?_, y.2⟩
  rcases set_cases hr with ⟨rfl, rfl⟩ | ⟨e, -⟩
  · rcases set_cases hz with ⟨-, rfl⟩ | ⟨e, -⟩
    · exact hw
    · exact absurd rfl e
  · exact y.1 e
theorem jn_hK {C : KsS} {D : MdS} (h : Inv C D) {kk : Nat} {q : PkS} {qm : MkS} (hq : (zKs C)[kk]? = some q) (hqm : (dKs D)[kk]? = some qm) (hu : qm.2.2.2.1 = true) : LQ (fun _ => PkQ (zSs C) (dSs D)) ((zKs C).set kk (shtP q)) ((dKs D).set kk ((qm.1, qm.2.1, qm.2.2.1, qm.2.2.2.1, true) : MkS)) := by
  have hK := h.2.2.2.2.2.2.1
  have hQ := hK.2 kk q qm hq hqm
  exact hK.set ⟨hQ.1, hQ.2.1, hQ.2.2.1, hQ.2.2.2.1, (by show false = (qm.2.2.2.1 && !true); simp), fun _ => hu⟩
theorem jn_y {C : KsS} {D : MdS} (h : Inv C D) {i kk : Nat} {r : PeS} {q : MpS} (hr : (zPs C)[i]? = some r) (hq : (dPs D)[i]? = some q) (hop : opI (zKs C) (pPk r) = some kk) : ∃ (pk : PkS) (nx : Nat) (T : TrS) (st : StS) (own nd sv last : Nat) (isb : Bool) (N2 : Nat → Option Nat) (bf es on ky : Nat) (CH : Nat → Option ChS) (Ep : MeS) (qm : MkS) (k0 : Nat),
    ((zKs C)[kk]? = some pk ∧ pk.2.2.2.2.1 = some nx ∧ (zTs C)[nx]? = some T ∧ (zSt C)[nx]? = some st ∧ lof T i = some own ∧ st.1 < 2 ^ T.1 ∧ mtg T st.1 own = some nd ∧ nd < 31 ∧ T.2.1 nd = some sv ∧ (clmK T st.1 nd ((zSs C, sv, false, (fup (pNd r) (2 * own) (some pk.2.1))) : CmS) T.1) = (zSs C, last, isb, N2) ∧ (∀ k, k ≤ T.1 → (clmK T st.1 nd ((zSs C, sv, false, (fup (pNd r) (2 * own) (some pk.2.1))) : CmS) k).2.1 < (clmK T st.1 nd ((zSs C, sv, false, (fup (pNd r) (2 * own) (some pk.2.1))) : CmS) k).1.length) ∧ st.2.1 = some bf ∧ bf < (zSs C).length ∧ fnd (zSs C) (bf, none, 4) = some es ∧ fnd (zSs C) (es, none, 5) = some on ∧ fnd (zSs C) (es, none, 6) = some ky ∧ chS T es (zSs C) (2 ^ T.1) = (zSs C, CH) ∧ pk.2.1 < (zSs C).length) ∧
    ((∀ Ep ∈ dEs D, ∀ l n, ePk Ep l = some n → n < (dKs D).length) ∧ (dEs D)[nx]? = some Ep ∧ own < 16 ∧ ePk Ep own = some kk ∧ (dKs D)[kk]? = some qm ∧ qm.1 = i ∧ (¬ qm.2.2.2.2 = true) ∧ (∀ (e2 : Nat) (E2 : MeS) (l2 : Nat), (dEs D)[e2]? = some E2 → l2 < 16 → (e2 < nx ∨ (e2 = nx ∧ l2 < own)) → ¬ jnM D i E2 l2) ∧ 1 ≤ k0 ∧ k0 ≤ 4 ∧ eWy Ep (nab own k0) = true ∧ (∀ j, 1 ≤ j → j < k0 → ¬ eWy Ep (nab own j) = true) ∧ eNo Ep = nx ∧ NtB ((dKs D).set kk ((qm.1, qm.2.1, qm.2.2.1, qm.2.2.2.1, true) : MkS)) (dEs D) ((dPs D).set i (comR (getR ((mEp q, own, qm.2.1, mRn q, mNd q, mCh q, mEv q) : MpS) Ep k0) Ep)) (dSs D).length (dMs D).length) ∧
    ∀ (E : Nat → Bool) (Qs : List MpS), (∀ y, E y = true ↔ pEv r y = true ∨ helP ((zKs C).set kk (shtP pk)) ((pNo r, pEv r, ((pPk r).eraseIdx ((pPk r).idxOf kk)), some nx, own, drpF T N2, on, ky, CH, none) : PeS) y) → NtR ((dKs D).set kk ((qm.1, qm.2.1, qm.2.2.1, qm.2.2.2.1, true) : MkS)) (dEs D) ((dPs D).set i (comR (getR ((mEp q, own, qm.2.1, mRn q, mNd q, mCh q, mEv q) : MpS) Ep k0) Ep)) Qs ((dPs D).set i (comR (getR ((mEp q, own, qm.2.1, mRn q, mNd q, mCh q, mEv q) : MpS) Ep k0) Ep)).length →
      Inv (zSs C, zBx C, zZz C, (zPs C).set i ((pNo r, E, ((pPk r).eraseIdx ((pPk r).idxOf kk)), some nx, own, drpF T N2, on, ky, CH, none) : PeS), (zKs C).set kk (shtP pk), zRs C, zTs C, zSt C, zMs C, zSo C, zBn C) (dSs D, dBx D, (dKs D).set kk ((qm.1, qm.2.1, qm.2.2.1, qm.2.2.2.1, true) : MkS), Qs, dRs D, dEs D, dMs D, dSo D, 0, dZz D, dBn D, dCm D) := by
  obtain ⟨pk, qm, nx, Ep, T, own, hpk, hqm, hPQ, hpi, hpo, hqi, hqg, hqu, hnx, hnx0, hEp, hT, hpl, hTi, hTx, hep, hall⟩ := pk_op h hr hop
  obtain ⟨⟨hw, hev, hnd⟩, hrn, hch, hhe⟩ := h.2.2.2.2.2.2.2.2.2.2.1.2 i r q hr hq
  have hS := h.1
  have hE := h.2.2.2.2.2.2.2.2.1
  have hP := h.2.2.2.2.2.2.2.2.2.2.1
  have hPk := h.2.2.2.2.2.2.2.2.2.2.2.2.2.2.1
  have hRo := h.2.2.2.2.2.2.2.2.2.2.2.2.2.2.2.2.1
  have hMl := h.2.2.2.2.2.2.2.2.2.2.2.1.1
  have hQ := hE.2 nx T Ep hT hEp
  obtain ⟨hno, ⟨hI, hIp⟩, hTQ, s, xn, hs, hES, hst⟩ := hQ
  obtain ⟨e0, rfl⟩ : ∃ e0, nx = e0 + 1 := ⟨nx - 1, by omega⟩
  obtain ⟨T0, hT0⟩ := get_ex (xs := zTs C) (i := e0) (by have := get_lt2 hT; omega)
  obtain ⟨E0, hE0, hQ0⟩ := hE.l hT0
  obtain ⟨-, ⟨hI0, -⟩, -, s0, y0, hs0, hES0, -⟩ := hQ0
  obtain ⟨x0, g1, hsP, hsB, hsE⟩ := hst e0 T0 s0 E0 rfl hT0 hs0 hE0
  have hp := p2_4 hI.1
  have hT4 := hI.1
  have hlo := lof_q hI hTi
  have ho := (lof_o hlo).1
  have hsl := hsE.1
  have hpn : ePk Ep own ≠ none := by rw [hpl]; simp
  have hne : own ≠ s.1 := hsE.2.2.2.2.2.2.2.2.1 own hpn
  obtain ⟨m, hm, hm1, hm2⟩ := meet_at ho hsl hne
  have hcv : cvr (nab s.1 (m + 1)) own = true := (cvr_nab (by omega) (by omega) (by omega)).mpr hm1
  have hcn : ¬ cvr (nab s.1 m) own = true := fun z => hm2 ((cvr_nab (by omega) (by omega) (by omega)).mp z)
  have hio' : T.2.2.2 own ≠ none := by rw [hTi]; simp
  have hnn := (hsB m hm).1 ⟨own, hio', hcv, hcn⟩
  obtain ⟨hw1, hw2, hw3, hw4, hw5, hw6⟩ := id hw
  obtain ⟨hnd0, hch0, hmn0, hmc0, hrn0⟩ := hw5 hep
  cases hsc : T.2.1 (nab s.1 (m + 1)) with
  | none => exact absurd hsc hnn
  | some sc =>
  obtain ⟨y, bn, bf, p1, p2, p3, p4, p5, p6⟩ := hsP
  subst p6
  obtain ⟨last, k1, k2, k3⟩ := clm_all (N := fup (pNd r) (2 * own) (some pk.2.1)) hS.1 hI.1 (by omega) hm hsc p1
  obtain ⟨q1, on, ky, q2, q3, q4, q5⟩ := ep_keys hS hES p4
  obtain ⟨CH, r1, r2, r3, r4⟩ := chs_q hS hI hES
  have hHJ2 : HJ T own (drpF T (clmN T s.1 (m + 1) T.1 (fup (pNd r) (2 * own) (some pk.2.1)))) := by
    refine hj_clm hI hsl ho hm1 hsE.2.2.2.1 fun n x hn hx hcl => ?_
    unfold fup
    by_cases e : n = 2 * own
    · rw [if_pos e]
      rw [e, hTx] at hx
      rw [hx, e]
      exact ⟨fun _ => ⟨cvr_lf (by omega), late_lf hI (by omega) own⟩, fun _ => rfl⟩
    · rw [if_neg e, hnd0 n]
      refine ⟨(fun z => by cases z), fun z => ?_⟩
      have hn31 : n < 31 := by omega
      have hnv := nab_of hn31 (by omega) z.1
      have hl0 : 0 < lev n := by
        rcases Nat.eq_zero_or_pos (lev n) with w | w
        · rw [w, nab_0] at hnv; exact absurd hnv e
        · exact w
      have hnc : ¬ cvr n s.1 = true := by
        intro w
        refine hcl ⟨?_, nab_of hn31 (by omega) w⟩
        rcases Nat.lt_or_ge (lev n) (m + 1) with y1 | y1
        · exfalso
          have z2 := nab_of hn31 (by omega) w
          have hlv := lev_le hI.1 hn
          have z1 := z.1
          rw [z2] at z1
          have z3 := (cvr_nab (by omega) (by omega) (by omega)).mp z1
          exact hm2 (dv_mo z3 (by omega))
        · exact y1
      exact absurd (hsE.2.2.2.2.1 own hpn n hl0 z.1 hnc (by rw [hx]; simp)) z.2
  have hgM2 := go_M (q := ((mEp q, own, qm.2.1, mRn q, mNd q, mCh q, mEv q) : MpS)) (N := fup (pNd r) (2 * own) (some pk.2.1)) hS.1.1 hS.2.1.1 hI hTQ hsl ho hm1 hsE.2.2.2.2.2.2.2.2.2.2 (fun n hn => by
    unfold fup
    rw [if_neg (fun z => by rw [z, lev_lf0 _ (by omega)] at hn; omega), hnd0 n]
    exact Or.inl ⟨rfl, hmn0 n⟩) (fun n _ => hmn0 n) rfl
  have hwy : ∀ j, 1 ≤ j → j ≤ 4 → (eWy Ep (nab own j) = true → m + 1 ≤ j) := by
    intro j hj hj4 hwj
    obtain ⟨k, g1, g2, -⟩ := (hsE.2.2.2.2.2.2.2.2.2.2 _).mp hwj
    rcases Nat.lt_or_ge j (m + 1) with g | g
    · exfalso
      have g3 : cvr (nab own j) s.1 = true := by rw [g2]; exact cvr_self (by omega) (by omega)
      have g4 := (cvr_nab (by omega) (by omega) (by omega)).mp g3
      exact hm2 (dv_mo g4.symm (by omega))
    · exact g
  have hHJl : drpF T (clmN T s.1 (m + 1) T.1 (fup (pNd r) (2 * own) (some pk.2.1))) (2 * own) = some pk.2.1 := by
    rw [hHJ2 (2 * own), if_pos ⟨cvr_lf (by omega), by omega, late_lf hI (by omega) _⟩, hTx]
  have hpw : ∀ E, PeW (zSs C) (dSs D) (zTs C) (dEs D) ((dKs D).set kk ((qm.1, qm.2.1, qm.2.2.1, qm.2.2.2.1, true) : MkS)) i ((pNo r, E, ((pPk r).eraseIdx ((pPk r).idxOf kk)), some (e0 + 1), own, drpF T (clmN T s.1 (m + 1) T.1 (fup (pNd r) (2 * own) (some pk.2.1))), on, ky, CH, none) : PeS) (comR (getR ((mEp q, own, qm.2.1, mRn q, mNd q, mCh q, mEv q) : MpS) Ep (m + 1)) Ep) := by
    intro E
    refine ⟨hw1, ?_, Or.inl ⟨rfl, rfl⟩, ?_, fun z => (by cases z), fun e2 z => ?_⟩
    · show some (eNo Ep) = some (e0 + 1); rw [hno]
    · rw [pksM_set (q2 := ((qm.1, qm.2.1, qm.2.2.1, qm.2.2.2.1, true) : MkS)) hqm rfl rfl, if_pos hqi]
      show (pPk r).eraseIdx ((pPk r).idxOf kk) = _
      rw [hw4]
    · cases z
      refine ⟨T, Ep, hT, hEp, hTi, rfl, hHJ2, hgM2, fun n hn => ?_, ?_, q4, q5, r2, r3⟩
      · show (if n < 31 then getN _ Ep (m + 1) n else mNd q n) = none
        have z1 := hmn0 n
        split
        · unfold getN
          rw [if_neg (fun z => by have := z.2.1.1; omega)]
          split
          · exact z1
          · rfl
        · exact z1
      · show Oq _ _ (drpF T (clmN T s.1 (m + 1) T.1 (fup (pNd r) (2 * own) (some pk.2.1))) (2 * own)) (some qm.2.1)
        rw [hHJl]
        exact Or.inr ⟨pk.2.1, qm.2.1, rfl, rfl, hPQ.2.1⟩
  have hev0 : ∀ E : Nat → Bool, (∀ y, E y = true ↔ pEv r y = true ∨ helP ((zKs C).set kk (shtP pk)) ((pNo r, pEv r, ((pPk r).eraseIdx ((pPk r).idxOf kk)), some (e0 + 1), own, drpF T (clmN T s.1 (m + 1) T.1 (fup (pNd r) (2 * own) (some pk.2.1))), on, ky, CH, none) : PeS) y) → evOk (zSs C) (dSs D) ((zKs C).set kk (shtP pk)) ((pNo r, E, ((pPk r).eraseIdx ((pPk r).idxOf kk)), some (e0 + 1), own, drpF T (clmN T s.1 (m + 1) T.1 (fup (pNd r) (2 * own) (some pk.2.1))), on, ky, CH, none) : PeS) (comR (getR ((mEp q, own, qm.2.1, mRn q, mNd q, mCh q, mEv q) : MpS) Ep (m + 1)) Ep) := fun E hE => ⟨hnd, _, hev, hE⟩
  have hchl : ∀ E, ChL C ((pNo r, E, ((pPk r).eraseIdx ((pPk r).idxOf kk)), some (e0 + 1), own, drpF T (clmN T s.1 (m + 1) T.1 (fup (pNd r) (2 * own) (some pk.2.1))), on, ky, CH, none) : PeS) := by
    intro E l c hc
    rw [r4 l c hc]; exact Nat.zero_le _
  refine ⟨pk, e0 + 1, T, s, own, nab s.1 (m + 1), sc, last, true, clmN T s.1 (m + 1) T.1 (fup (pNd r) (2 * own) (some pk.2.1)), bf, s.2.2.1, on, ky, CH, Ep, qm, m + 1, ⟨hpk, hnx, hT, hs, hlo, hsl, mtg_at hI.1 hsl ho hm hm1 hm2 hnn, nab_b (m + 1) (by omega) s.1 (by omega), hsc, k1, k3, p3, p4.lt, q1, q2, q3, r1, hPQ.2.1.lt.1⟩, ⟨?_, hEp, by omega, hpl, hqm, hqi, hqg, ?_, by omega, by omega, ?_, fun j hj hj2 hj3 => by have := hwy j hj (by omega) hj3; omega, hno, ?_⟩, fun E Qs hE hN => ?_⟩
  · intro E2 hE2 l n hn
    obtain ⟨e2, he2⟩ := List.getElem?_of_mem hE2
    obtain ⟨p2, -, w, -⟩ := hPk.1 e2 E2 l n he2 hn
    have := get_lt2 w
    rw [h.2.2.2.2.2.2.1.1] at this
    exact this
  · rintro e2 E2 l2 hE2 hl2 hlt ⟨k2, p2, w1, w2, w3, w4⟩
    obtain ⟨q2, T2, v1, v2, v3, v4, v5, v6, -⟩ := hPk.1 e2 E2 l2 k2 hE2 w1
    have hq2 := h.2.2.2.2.2.2.1.2 k2 q2 p2 v1 w2
    have ho2 : q2.2.2.2.2.2 = true := by
      rw [hq2.2.2.2.2.1, ← hq2.2.2.2.1, v3]
      cases e9 : p2.2.2.2.2 with
      | true => exact absurd e9 w4
      | false => rfl
    have e9 : k2 = kk := hPk.2.2.1 k2 q2 kk pk v1 hpk ho2 hpo (by rw [hpi, hq2.1]; exact w3)
    rw [e9, hpk] at v1; cases v1
    rw [hnx] at v4
    have e8 : e0 + 1 = e2 := Option.some.inj v4
    rw [← e8, hT] at v2; cases v2
    rw [hpi] at v5
    have := hI.2.2.2.1 _ _ _ v5 hTi
    omega
  · rw [nab_eq hm1]
    exact (hsE.2.2.2.2.2.2.2.2.2.2 _).mpr ⟨m, hm, rfl, hnn⟩
  · obtain ⟨E, hE⟩ := cl_bool fun y => pEv r y = true ∨ helP ((zKs C).set kk (shtP pk)) ((pNo r, pEv r, ((pPk r).eraseIdx ((pPk r).idxOf kk)), some (e0 + 1), own, drpF T (clmN T s.1 (m + 1) T.1 (fup (pNd r) (2 * own) (some pk.2.1))), on, ky, CH, none) : PeS) y
    refine ntb_of (jn_hK h hpk hqm hqu) h.tr (jn_ps h hpk hqm hqi (hpw E) (hev0 E hE)) fun r9 hr9 l c hc => ?_
    rw [← hMl]
    obtain ⟨k, hk⟩ := List.getElem?_of_mem hr9
    rcases set_cases hk with ⟨-, rfl⟩ | ⟨-, z⟩
    · exact hchl E l c hc
    · obtain ⟨q9, -, -, -, w, -⟩ := hP.l z
      exact w l c hc
  · refine jn_inv h hr hpk hqm hpo hpi hnx hep rfl (nt_q (jn_hK h hpk hqm hqu) h.tr hN (jn_ps h hpk hqm hqi (hpw E) (hev0 E hE))) ?_ (hchl E)
    intro e2 z
    cases z
    refine ⟨fun k T1 T2 hk hT1 hT2 hc => Or.inl ?_, fun hl x => ⟨(fun z => by cases z), fun z => ?_⟩⟩
    · have e1 := hall k T1 hk hT1
      have e2 := hall (k + 1) T2 (by omega) hT2
      rw [← hpi] at e1 e2
      exact hRo kk pk (e0 + 1) k T1 T2 own hpk hpo hnx hk hT1 hT2 e1 e2
    · exact absurd z (rn_no h hr (by rw [hep]; exact isF_n) (by rw [show (zTs C).length - 1 = e0 + 1 by omega]; exact hT) hTi x)
