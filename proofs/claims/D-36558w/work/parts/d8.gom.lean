set_option maxRecDepth 100000
/-! ===== going on: a member that stays ===== -/
/-- climbing: what comes out of it -/
theorem clm_all {ss : List Sec} {T : TrS} {c m sc : Nat} {y : Nm} {N : Nat → Option Nat} (hs : ScOk ss) (hT : T.1 ≤ 4) (hc : c < 16) (hm : m < T.1) (hsc : T.2.1 (nab c (m + 1)) = some sc) (hP : ∀ j z, j ≤ T.1 → T.2.1 (nab c j) = some z → At ss z (pthN T c y j)) : ∃ last, clmK T c (nab c (m + 1)) ((ss, sc, false, N) : CmS) T.1 = (ss, last, true, clmN T c (m + 1) T.1 N) ∧ At ss last (pthN T c y T.1) ∧ ∀ k, k ≤ T.1 → (clmK T c (nab c (m + 1)) ((ss, sc, false, N) : CmS) k).2.1 < (clmK T c (nab c (m + 1)) ((ss, sc, false, N) : CmS) k).1.length := by
  have h := fun k => clm_run (N := N) hs hT hc (Nat.succ_pos m) hm hsc hP k
  obtain ⟨v, h1, h2⟩ := (h T.1 (Nat.le_refl _)).2 hm
  refine ⟨v, h1, h2, fun k hk => ?_⟩
  rcases Nat.lt_or_ge k (m + 1) with z | z
  · rw [(h k hk).1 z]
    exact (hP (m + 1) sc hm hsc).lt
  · obtain ⟨v2, g1, g2⟩ := (h k hk).2 z
    rw [g1]
    exact g2.lt
/-- the chains of an epoch -/
theorem chs_q {ss tt : List Sec} (hS : SqS ss tt) {T : TrS} {s : StS} {E : MeS} {x : Nm} (hI : TrI T) (hES : EpS ss tt T s E x) : ∃ CH, chS T s.2.2.1 ss (2 ^ T.1) = (ss, CH) ∧ (∀ l, (CH l = none ∧ cmS E l = none) ∨ ∃ c d, CH l = some c ∧ cmS E l = some d ∧ ChQ ss tt c d) ∧ (∀ l, CH l = none ↔ T.2.2.2 l = none) ∧ ∀ l c, CH l = some c → c.2.1 = 0 := by
  obtain ⟨a1, a2, a3, a4, a5⟩ := hES
  obtain ⟨CH, g1, g2⟩ := chs_run (k := 2 ^ T.1) (T := T) hS.1 a1 (fun l hl => by obtain ⟨c, -, hc⟩ := a5 l hl; exact (hS.2.2.2 _).mpr hc.mem)
  have hl : ∀ l, T.2.2.2 l ≠ none → l < 2 ^ T.1 := fun l hl => by
    cases e : T.2.2.2 l with
    | none => exact absurd e hl
    | some p => exact (hI.2.2.1 l p e).1
  refine ⟨CH, g1, fun l => ?_, fun l => ?_, fun l c hc => ?_⟩
  · cases e : T.2.2.2 l with
    | none => exact Or.inl ⟨(g2 l).2 fun z => z.2 e, by unfold cmS; rw [a4 l e]; split <;> rfl⟩
    | some p =>
      have hne : T.2.2.2 l ≠ none := by rw [e]; simp
      obtain ⟨c, h1, h2⟩ := (g2 l).1 ⟨hl l hne, hne⟩
      obtain ⟨d, h3, h4⟩ := a5 l hne
      refine Or.inr ⟨(c, 0, fun _ => none), (d, 0, []), h1, by unfold cmS; rw [if_pos (hI.leaf e), h3]; rfl, ⟨_, h2, h4⟩, rfl, List.nodup_nil, (fun p z hz => by cases hz), (fun p z hz => by cases hz), Nat.le_refl _, fun z hz => by cases hz⟩
  · constructor
    · intro z
      cases e : T.2.2.2 l with
      | none => rfl
      | some p =>
        have hne : T.2.2.2 l ≠ none := by rw [e]; simp
        obtain ⟨c, h1, -⟩ := (g2 l).1 ⟨hl l hne, hne⟩
        rw [z] at h1; cases h1
    · intro z; exact (g2 l).2 fun w => w.2 z
  · by_cases z : l < 2 ^ T.1 ∧ T.2.2.2 l ≠ none
    · obtain ⟨c2, h1, -⟩ := (g2 l).1 z
      rw [hc] at h1; cases h1; rfl
    · rw [(g2 l).2 z] at hc; cases hc
/-- an epoch's keys, found -/
theorem ep_keys {ss tt : List Sec} (hS : SqS ss tt) {T : TrS} {s : StS} {E : MeS} {b : Nm} {bf : Nat} (hES : EpS ss tt T s E (n1 b 4)) (hb : At ss bf b) : fnd ss (bf, none, 4) = some s.2.2.1 ∧ ∃ on ky, fnd ss (s.2.2.1, none, 5) = some on ∧ fnd ss (s.2.2.1, none, 6) = some ky ∧ Nq ss tt on (eGo E) ∧ Nq ss tt ky (eKy E) := by
  obtain ⟨a1, a2, a3, -⟩ := hES
  obtain ⟨on, h1⟩ := At.ex ((hS.2.2.2 _).mpr a2.mem)
  obtain ⟨ky, h2⟩ := At.ex ((hS.2.2.2 _).mpr a3.mem)
  exact ⟨fnd_1 hS.1 hb a1, on, ky, fnd_1 hS.1 a1 h1, fnd_1 hS.1 a1 h2, ⟨_, h1, a2⟩, ⟨_, h2, a3⟩⟩
theorem rn_x {C : KsS} {i e : Nat} {r : PeS} {T : TrS} (hrn : RnQ C i r) (he : pEp r = some e) {T0 : TrS} (h0 : (zTs C)[e]? = some T0) (hT : (zTs C)[e + 1]? = some T) (hi : T.2.2.2 (pLf r) = some i) : T.2.1 (2 * pLf r) = T0.2.1 (2 * pLf r) ∨ T.2.1 (2 * pLf r) = pRn r := by
  rcases (hrn e he).1 e T0 T (Nat.le_refl _) h0 hT hi with z | z
  · exact Or.inl z
  · exact Or.inr z.2
theorem ch_leaf {ss tt : List Sec} {T U : TrS} (h : TrI T) (hQ : TrQ ss tt T U) {l i : Nat} (hl : T.2.2.2 l = some i) : ∃ x nl, T.2.1 (2 * l) = some x ∧ U.2.1 (2 * l) = some nl ∧ Nq ss tt x nl := by
  rcases hQ.2.1 (2 * l) with ⟨z, -⟩ | ⟨x, y, z1, z2, z3⟩
  · rw [(h.2.1 l).mpr z] at hl; cases hl
  · exact ⟨x, y, z1, z2, z3⟩
theorem go_m {C : KsS} {D : MdS} (h : Inv C D) {i e own : Nat} {r : PeS} {q : MpS} {T : TrS} (hr : (zPs C)[i]? = some r) (hq : (dPs D)[i]? = some q) (he : pEp r = some e) (hT : (zTs C)[e + 1]? = some T) (hlo : lof T i = some own) : ∃ (st : StS) (nd bg en sc last : Nat) (isb : Bool) (N2 : Nat → Option Nat) (u bf es on ky : Nat) (CH : Nat → Option ChS) (Ep : MeS) (nl k0 : Nat),
    ((zSt C)[e + 1]? = some st ∧ st.1 < 2 ^ T.1 ∧ mtg T st.1 own = some nd ∧ st.2.2.2.1 nd = some bg ∧ st.2.2.2.2 nd = some en ∧ bg ≤ en ∧ en ≤ (zBx C).length ∧ (∃ n x, rnN T r own n = some x ∧ ∃ o q, fnd (zSs C) (x, none, 1) = some o ∧ bg ≤ q ∧ q < en ∧ (zBx C)[q]? = some (o, sc)) ∧ (∀ j p, bg ≤ j → j < en → (zBx C)[j]? = some p → p.2 = sc) ∧ sc < (zSs C).length ∧ nd < 31 ∧
     (clmK T st.1 nd ((zSs C, sc, false, rnN T r own) : CmS) T.1) = (zSs C, last, isb, N2) ∧ (∀ k, k ≤ T.1 → (clmK T st.1 nd ((zSs C, sc, false, rnN T r own) : CmS) k).2.1 < (clmK T st.1 nd ((zSs C, sc, false, rnN T r own) : CmS) k).1.length) ∧ last < (zSs C).length ∧ fnd (zSs C) (last, none, 2) = some u ∧ fnd (zSs C) (pOn r, some u, 3) = some bf ∧ fnd (zSs C) (bf, none, 4) = some es ∧ fnd (zSs C) (es, none, 5) = some on ∧ fnd (zSs C) (es, none, 6) = some ky ∧ chS T es (zSs C) (2 ^ T.1) = (zSs C, CH)) ∧
    (mEp q = some e ∧ (dEs D)[e + 1]? = some Ep ∧ (¬ eRm Ep (mLf q) = true) ∧ (eTr Ep).2.1 (2 * mLf q) = some nl ∧ 1 ≤ k0 ∧ k0 ≤ 4 ∧ eWy Ep (nab (mLf q) k0) = true ∧ (∀ j, 1 ≤ j → j < k0 → ¬ eWy Ep (nab (mLf q) j) = true) ∧ NtB (dKs D) (dEs D) ((dPs D).set i (comR (getR ((mEp q, mLf q, nl, mRn q, mNd q, mCh q, mEv q) : MpS) Ep k0) Ep)) (dSs D).length (dMs D).length) ∧
    ∀ (E : Nat → Bool) (Qs : List MpS), (∀ y, E y = true ↔ pEv r y = true ∨ helP (zKs C) ((pNo r, pEv r, pPk r, some (e + 1), own, drpF T N2, on, ky, CH, none) : PeS) y) → NtR (dKs D) (dEs D) ((dPs D).set i (comR (getR ((mEp q, mLf q, nl, mRn q, mNd q, mCh q, mEv q) : MpS) Ep k0) Ep)) Qs ((dPs D).set i (comR (getR ((mEp q, mLf q, nl, mRn q, mNd q, mCh q, mEv q) : MpS) Ep k0) Ep)).length →
      Inv (zSs C, zBx C, zZz C, (zPs C).set i ((pNo r, E, pPk r, some (e + 1), own, drpF T N2, on, ky, CH, none) : PeS), zKs C, zRs C, zTs C, zSt C, zMs C, zSo C, zBn C) (dSs D, dBx D, dKs D, Qs, dRs D, dEs D, dMs D, dSo D, 0, dZz D, dBn D, dCm D) := by
  obtain ⟨T0, Ep0, Ep, s, xn, x0, hT0, hE0, hEp, hs, hpi, hi0, hI0, hQ, hES, hon, hsP, hsB, hsE⟩ := go_st h hr hq he hT
  have hlt : e + 1 < (zTs C).length := get_lt2 hT
  obtain ⟨⟨hw, hev, hnd⟩, hrn, hch, hhe⟩ := h.2.2.2.2.2.2.2.2.2.2.1.2 i r q hr hq
  have hS := h.1
  obtain ⟨hno, ⟨hI, hIp⟩, hTQ, -⟩ := id hQ
  have hp := p2_4 hI.1
  have hT4 := hI.1
  obtain ⟨T1, E1, b1, b2, -, hlf, hHJ, hnd1, hnd0, hls, -⟩ := id hpi
  rw [hT0] at b1; cases b1
  rw [hE0] at b2; cases b2
  obtain ⟨ho, hio⟩ := lof_o hlo
  have hnr : ¬ eRm Ep (pLf r) = true := fun z => hsE.2.2.2.2.2.1 (pLf r) i hi0 z own hio
  have hi1 := hsE.2.2.2.2.2.2.1 (pLf r) i hi0 hnr
  have eo : own = pLf r := hI.2.2.2.1 _ _ i hio hi1
  subst eo
  have hpk : ePk Ep (pLf r) = none := by
    cases e1 : ePk Ep (pLf r) with
    | none => rfl
    | some k => exact absurd hi0 (hsE.2.2.2.2.2.2.2.2.2.1 (pLf r) i (by rw [e1]; simp) hi1 (pLf r))
  have hsl := hsE.1
  have hne : pLf r ≠ s.1 := by
    intro z
    rw [z] at hi1
    have := (h.2.2.2.2.2.2.2.2.2.2.2.2.2.2.2.2.2 i r (e + 1) s T hr hs hT hi1).1 e he
    omega
  obtain ⟨m, hm, hm1, hm2⟩ := meet_at ho hsl hne
  have hcv : cvr (nab s.1 (m + 1)) (pLf r) = true := (cvr_nab (by omega) (by omega) (by omega)).mpr hm1
  have hcn : ¬ cvr (nab s.1 m) (pLf r) = true := fun z => hm2 ((cvr_nab (by omega) (by omega) (by omega)).mp z)
  have hio' : T.2.2.2 (pLf r) ≠ none := by rw [hi1]; simp
  obtain ⟨hb1, hb2⟩ := hsB m hm
  have hnn := hb1 ⟨pLf r, hio', hcv, hcn⟩
  cases hsc : T.2.1 (nab s.1 (m + 1)) with
  | none => exact absurd hsc hnn
  | some sc =>
  obtain ⟨bg, en, c1, c2, c3, c4, c5, c6⟩ := hb2 sc hsc
  obtain ⟨u, x, qb, o, z, d1, d2, d3, d4, d5, d6, d7⟩ := c6 (pLf r) hio' hpk hcv hcn
  obtain ⟨y, bn, bf, p1, p2, p3, p4, p5, p6⟩ := hsP
  have hrx := rn_x hrn he hT0 hT hi1
  obtain ⟨lx, nl, hlx, hnl, hlq⟩ := ch_leaf hI hTQ hi1
  have hgN := go_N hI0 hI hsE hHJ hi0 hi1 hrx hm2
  have hux : rnN T r (pLf r) u = some x := by
    rcases d1 with e1 | ⟨e1, e2, e3, e4, e5⟩
    · rw [e1] at d2 ⊢
      exact go_own hI0 ((hI0.2.2.1 _ i hi0).1) hHJ d2 hrx
    · refine (hgN u x e5 d2 ?_).mpr ⟨e2, e3⟩
      rintro ⟨f1, f2⟩
      exact e4 (by rw [f2]; exact cvr_self (by omega) (Nat.le_trans (lev_le hI.1 e5) hI.1))
  obtain ⟨last, k1, k2, k3⟩ := clm_all (N := rnN T r (pLf r)) hS.1 hI.1 (by omega) hm hsc p1
  obtain ⟨u3, hu3⟩ := At.ex p2
  subst p6
  have hbf : At (zSs C) bf bn := p4
  have hbf2 : At (zSs C) bf (n2 (n1 x0 5) (n1 (pthN T s.1 y T.1) 2) 3) := by rw [← p5]; exact p4
  obtain ⟨q1, on, ky, q2, q3, q4, q5⟩ := ep_keys hS hES hbf
  obtain ⟨CH, r1, r2, r3, r4⟩ := chs_q hS hI hES
  have hHJ2 : HJ T (pLf r) (drpF T (clmN T s.1 (m + 1) T.1 (rnN T r (pLf r)))) := hj_clm hI hsl ho hm1 hsE.2.2.2.1 hgN
  have hM31 : ∀ n, 31 ≤ n → mNd q n = none := by
    intro n hn
    rcases Nat.eq_zero_or_pos (lev n) with z1 | z1
    · exact hnd0 n z1
    · refine (hnd1 n z1).no.mp ?_
      rw [hHJ n, if_neg]
      rintro ⟨-, z2, -⟩
      have := nd_31 hI0.1 z2
      omega
  have hgM := fun N (hN : ∀ n, 0 < lev n → Oq (zSs C) (dSs D) (N n) (mNd q n)) => go_M (q := ((mEp q, mLf q, nl, mRn q, mNd q, mCh q, mEv q) : MpS)) (N := N) hS.1.1 hS.2.1.1 hI hTQ hsl ho hm1 hsE.2.2.2.2.2.2.2.2.2.2 hN hM31 hlf
  have hgM2 := hgM (rnN T r (pLf r)) (fun n hn => by
    have : rnN T r (pLf r) n = pNd r n := by
      unfold rnN
      split
      · unfold fup
        rw [if_neg]
        intro z1; rw [z1, lev_lf0 _ (by omega)] at hn; omega
      · rfl
    rw [this]; exact hnd1 n hn)
  have hwy : ∀ j, 1 ≤ j → j ≤ 4 → (eWy Ep (nab (mLf q) j) = true → m + 1 ≤ j) := by
    intro j hj hj4 hwj
    rw [hlf] at hwj
    obtain ⟨k, g1, g2, -⟩ := (hsE.2.2.2.2.2.2.2.2.2.2 _).mp hwj
    rcases Nat.lt_or_ge j (m + 1) with g | g
    · exfalso
      have l1 := lev_nab (pLf r) (by omega) j (by omega)
      have l2 := lev_nab s.1 (by omega) (k + 1) (by omega)
      rw [g2, l2] at l1
      have g3 : cvr (nab (pLf r) j) s.1 = true := by rw [g2]; exact cvr_self (by omega) (by omega)
      have g4 := (cvr_nab (by omega) (by omega) (by omega)).mp g3
      exact hm2 (dv_mo g4.symm (by omega))
    · exact g
  have hHJl : drpF T (clmN T s.1 (m + 1) T.1 (rnN T r (pLf r))) (2 * pLf r) = some lx := by
    rw [hHJ2 (2 * pLf r), if_pos ⟨cvr_lf (by omega), by omega, late_lf hI (by omega) _⟩, hlx]
  have hpw : ∀ E, PeW (zSs C) (dSs D) (zTs C) (dEs D) (dKs D) i ((pNo r, E, pPk r, some (e + 1), pLf r, drpF T (clmN T s.1 (m + 1) T.1 (rnN T r (pLf r))), on, ky, CH, none) : PeS) (comR (getR ((mEp q, mLf q, nl, mRn q, mNd q, mCh q, mEv q) : MpS) Ep (m + 1)) Ep) := by
    intro E
    refine ⟨hw.1, ?_, Or.inl ⟨rfl, rfl⟩, hw.2.2.2.1, fun z => (by cases z), fun e2 z => ?_⟩
    · show some (eNo Ep) = some (e + 1); rw [hno]
    · cases z
      refine ⟨T, Ep, hT, hEp, hi1, hlf, hHJ2, hgM2, fun n hn => ?_, ?_, q4, q5, r2, r3⟩
      · show (if n < 31 then getN _ Ep (m + 1) n else mNd q n) = none
        have z1 := hnd0 n hn
        split
        · unfold getN
          rw [if_neg (fun z => by have := z.2.1.1; omega)]
          split
          · exact z1
          · rfl
        · exact z1
      · show Oq _ _ (drpF T (clmN T s.1 (m + 1) T.1 (rnN T r (pLf r))) (2 * pLf r)) (some nl)
        rw [hHJl]
        exact Or.inr ⟨lx, nl, rfl, rfl, hlq⟩
  have hev0 : ∀ E : Nat → Bool, (∀ y, E y = true ↔ pEv r y = true ∨ helP (zKs C) ((pNo r, pEv r, pPk r, some (e + 1), pLf r, drpF T (clmN T s.1 (m + 1) T.1 (rnN T r (pLf r))), on, ky, CH, none) : PeS) y) → evOk (zSs C) (dSs D) (zKs C) ((pNo r, E, pPk r, some (e + 1), pLf r, drpF T (clmN T s.1 (m + 1) T.1 (rnN T r (pLf r))), on, ky, CH, none) : PeS) (comR (getR ((mEp q, mLf q, nl, mRn q, mNd q, mCh q, mEv q) : MpS) Ep (m + 1)) Ep) := fun E hE => ⟨hnd, _, hev, hE⟩
  have hchl : ∀ E, ChL C ((pNo r, E, pPk r, some (e + 1), pLf r, drpF T (clmN T s.1 (m + 1) T.1 (rnN T r (pLf r))), on, ky, CH, none) : PeS) := by
    intro E l c hc
    rw [r4 l c hc]; exact Nat.zero_le _
  refine ⟨s, nab s.1 (m + 1), bg, en, sc, last, true, clmN T s.1 (m + 1) T.1 (rnN T r (pLf r)), u3, bf, s.2.2.1, on, ky, CH, Ep, nl, m + 1, ⟨hs, hsl, mtg_at hI.1 hsl ho hm hm1 hm2 hnn, c1, c2, c3, c4, ⟨u, x, hux, o, qb, fnd_1 hS.1 d6 d7, d3, d4, d5⟩, c5, (p1 (m + 1) sc hm hsc).lt, nab_b (m + 1) (by omega) s.1 (by omega), k1, k3, k2.lt, fnd_1 hS.1 k2 hu3, fnd_2 hS.1 hon hu3 hbf2, q1, q2, q3, r1⟩, ⟨by rw [hw.2.1]; exact he, hEp, by rw [hlf]; exact hnr, by rw [hlf]; exact hnl, by omega, by omega, ?_, fun j hj hj2 hj3 => by have := hwy j hj (by omega) hj3; omega, ?_⟩, fun E Qs hE hN => ?_⟩
  · rw [hlf, nab_eq hm1]
    exact (hsE.2.2.2.2.2.2.2.2.2.2 _).mpr ⟨m, hm, rfl, hnn⟩
  · obtain ⟨E, hE⟩ := cl_bool fun y => pEv r y = true ∨ helP (zKs C) ((pNo r, pEv r, pPk r, some (e + 1), pLf r, drpF T (clmN T s.1 (m + 1) T.1 (rnN T r (pLf r))), on, ky, CH, none) : PeS) y
    exact h.ntb (hpw E) (hev0 E hE) (hchl E)
  · have hPk := h.2.2.2.2.2.2.2.2.2.2.2.2.2.2.1
    have hRs := h.2.2.2.2.2.2.2.1
    have hCm := h.2.2.2.2.2.2.2.2.2.2.2.2.2.2.2.2.2
    refine h.set hr (hpw E) (hev0 E hE) ?_ (hchl E) (fun k hk ho2 hki => ?_) (fun j p k hp hp0 hk hki => ?_) (fun z => ?_) (fun e2 z k s2 T2 hs2 hT2 hc2 => ?_) hN
    · intro e2 z
      cases z
      refine ⟨fun k T1 T2 hk hT1 hT2 hc => ?_, fun hl x => ⟨(fun z => by cases z), fun z => ?_⟩⟩
      · rcases (hrn e he).1 k T1 T2 (by omega) hT1 hT2 hc with w | ⟨w, -⟩
        · exact Or.inl w
        · omega
      · exact absurd z (rn_no h hr (by rw [he]; exact isF_some hlt) (by rw [show (zTs C).length - 1 = e + 1 by omega]; exact hT) hi1 x)
    · obtain ⟨j, hj⟩ := List.getElem?_of_mem hk
      obtain ⟨e3, E3, l3, r3, -, -, -, w, w2, -⟩ := hPk.2.1 j k hj ho2
      rw [hki, hr] at w; cases w
      rw [he] at w2; cases w2
    · obtain ⟨p2, -, T3, -, -, w⟩ := hRs.l hp
      rcases w with ⟨-, -, -, k3, r3, w1, -, w2, w3, -⟩ | ⟨w, -⟩ | ⟨w, -⟩
      · rw [hk] at w1; cases w1
        rw [hki, hr] at w2; cases w2
        rw [he] at w3; cases w3
      · omega
      · omega
    · rw [he] at z; exact absurd z (isF_some hlt)
    · cases z
      have := (hCm i r k s2 T2 hr hs2 hT2 hc2).1 e he
      omega
