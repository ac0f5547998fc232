set_option maxRecDepth 100000
/-! ===== sending ===== -/
theorem Inv.msg {C : KsS} {D : MdS} (h : Inv C D) {m : MsS} {p : MmS} (hm : MsQ C D (zMs C).length m p) : Inv (zSs C, zBx C, zZz C, zPs C, zKs C, zRs C, zTs C, zSt C, zMs C ++ [m], zSo C, zBn C) (dSs D, dBx D, dKs D, dPs D, dRs D, dEs D, dMs D ++ [p], dSo D, 0, dZz D, dBn D, dCm D) := by
  obtain ⟨hS, hOk, hz, hbn, hcm, hB, hK, hR, hE, hSt, hP, hM, hSo, hSn, hPk, hPr, hRo, hCm⟩ := h
  refine ⟨hS, hOk, hz, hbn, hcm, hB, hK, hR, hE, hSt, hP.imp fun k r q _ _ z => ⟨z.1, z.2.1, fun l c hc => ?_, z.2.2.2⟩, hM.snoc hm, hSo, hSn, hPk, hPr, hRo, hCm⟩
  show _ ≤ (zMs C ++ [m]).length
  rw [List.length_append]
  exact Nat.le_trans (z.2.2.1 l c hc) (Nat.le_add_right _ _)
/-- a member's chain is changed -/
theorem pi_ch {ss tt : List Sec} {Ts : List TrS} {Es : List MeS} {i e l : Nat} {r : PeS} {q : MpS} {c c2 : ChS} {d2 : McS} {E : Nat → Bool} {V : List Nat} (h : PeI ss tt Ts Es i r q e) (hc : pCh r l = some c) (hq : ChQ ss tt c2 d2) : PeI ss tt Ts Es i ((pNo r, E, pPk r, pEp r, pLf r, pNd r, pOn r, pKy r, fup (pCh r) l (some c2), pRn r) : PeS) ((mEp q, mLf q, mLs q, mRn q, mNd q, fup (mCh q) l (some d2), V) : MpS) e := by
  obtain ⟨T, Ep, a1, a2, a3, a4, a5, a6, a7, a8, a9, b1, b2, b3⟩ := h
  refine ⟨T, Ep, a1, a2, a3, a4, a5, a6, a7, a8, a9, b1, fun k => ?_, fun k => ?_⟩
  · show (fup (pCh r) l (some c2) k = none ∧ fup (mCh q) l (some d2) k = none) ∨ ∃ c d, fup (pCh r) l (some c2) k = some c ∧ fup (mCh q) l (some d2) k = some d ∧ ChQ ss tt c d
    unfold fup
    by_cases e : k = l
    · rw [if_pos e, if_pos e]; exact Or.inr ⟨c2, d2, rfl, rfl, hq⟩
    · rw [if_neg e, if_neg e]; exact b2 k
  · show fup (pCh r) l (some c2) k = none ↔ _
    unfold fup
    by_cases e : k = l
    · rw [if_pos e, e]
      constructor
      · intro z; cases z
      · intro z; rw [(b3 l).mpr z] at hc; cases hc
    · rw [if_neg e]; exact b3 k
theorem pw_ch {ss tt : List Sec} {Ts : List TrS} {Es : List MeS} {Ms : List MkS} {i e l : Nat} {r : PeS} {q : MpS} {c c2 : ChS} {d2 : McS} {E : Nat → Bool} (h : PeW ss tt Ts Es Ms i r q) (he : pEp r = some e) (hc : pCh r l = some c) (hq : ChQ ss tt c2 d2) : PeW ss tt Ts Es Ms i ((pNo r, E, pPk r, pEp r, pLf r, pNd r, pOn r, pKy r, fup (pCh r) l (some c2), pRn r) : PeS) ((mEp q, mLf q, mLs q, mRn q, mNd q, fup (mCh q) l (some d2), mEv q) : MpS) := by
  obtain ⟨h1, h2, h3, h4, h5, h6⟩ := h
  refine ⟨h1, h2, h3, h4, fun z => ?_, fun e2 z => pi_ch (h6 e2 z) hc hq⟩
  have z : pEp r = none := z
  rw [he] at z; cases z
/-- one person's chain is changed: the relation holds -/
theorem Inv.ch {C : KsS} {D : MdS} (h : Inv C D) {i e l : Nat} {r : PeS} {q : MpS} {c c2 : ChS} {d2 : McS} (hr : (zPs C)[i]? = some r) (hq : (dPs D)[i]? = some q) (he : pEp r = some e) (hc : pCh r l = some c) (hcd : ChQ (zSs C) (dSs D) c2 d2) (hcl : c2.2.1 ≤ (zMs C).length) : NtB (dKs D) (dEs D) ((dPs D).set i ((mEp q, mLf q, mLs q, mRn q, mNd q, fup (mCh q) l (some d2), mEv q) : MpS)) (dSs D).length (dMs D).length ∧ ∀ (E : Nat → Bool) (Qs : List MpS), (∀ y, E y = true ↔ pEv r y = true ∨ helP (zKs C) ((pNo r, pEv r, pPk r, pEp r, pLf r, pNd r, pOn r, pKy r, fup (pCh r) l (some c2), pRn r) : PeS) y) → NtR (dKs D) (dEs D) ((dPs D).set i ((mEp q, mLf q, mLs q, mRn q, mNd q, fup (mCh q) l (some d2), mEv q) : MpS)) Qs ((dPs D).set i ((mEp q, mLf q, mLs q, mRn q, mNd q, fup (mCh q) l (some d2), mEv q) : MpS)).length → Inv (zSs C, zBx C, zZz C, (zPs C).set i ((pNo r, E, pPk r, pEp r, pLf r, pNd r, pOn r, pKy r, fup (pCh r) l (some c2), pRn r) : PeS), zKs C, zRs C, zTs C, zSt C, zMs C, zSo C, zBn C) (dSs D, dBx D, dKs D, Qs, dRs D, dEs D, dMs D, dSo D, 0, dZz D, dBn D, dCm D) := by
  obtain ⟨⟨hw, hev, hnd⟩, hrn, hch, hhe⟩ := h.2.2.2.2.2.2.2.2.2.2.1.2 i r q hr hq
  have hPk := h.2.2.2.2.2.2.2.2.2.2.2.2.2.2.1
  have hRs := h.2.2.2.2.2.2.2.1
  have hCm := h.2.2.2.2.2.2.2.2.2.2.2.2.2.2.2.2.2
  have hwn : ∀ E, PeW (zSs C) (dSs D) (zTs C) (dEs D) (dKs D) i ((pNo r, E, pPk r, pEp r, pLf r, pNd r, pOn r, pKy r, fup (pCh r) l (some c2), pRn r) : PeS) ((mEp q, mLf q, mLs q, mRn q, mNd q, fup (mCh q) l (some d2), mEv q) : MpS) := fun E => pw_ch hw he hc hcd
  have hevn : ∀ E : Nat → Bool, (∀ y, E y = true ↔ pEv r y = true ∨ helP (zKs C) ((pNo r, pEv r, pPk r, pEp r, pLf r, pNd r, pOn r, pKy r, fup (pCh r) l (some c2), pRn r) : PeS) y) → evOk (zSs C) (dSs D) (zKs C) ((pNo r, E, pPk r, pEp r, pLf r, pNd r, pOn r, pKy r, fup (pCh r) l (some c2), pRn r) : PeS) ((mEp q, mLf q, mLs q, mRn q, mNd q, fup (mCh q) l (some d2), mEv q) : MpS) := fun E hE => ⟨hnd, _, hev, hE⟩
  have hchn : ∀ E, ChL C ((pNo r, E, pPk r, pEp r, pLf r, pNd r, pOn r, pKy r, fup (pCh r) l (some c2), pRn r) : PeS) := by
    intro E k c3 h3
    have h3 : fup (pCh r) l (some c2) k = some c3 := h3
    unfold fup at h3
    by_cases e : k = l
    · rw [if_pos e] at h3; cases h3; exact hcl
    · rw [if_neg e] at h3; exact hch k c3 h3
  refine ⟨?_, fun E Qs hE hN => ?_⟩
  · obtain ⟨E, hE⟩ := cl_bool fun y => pEv r y = true ∨ helP (zKs C) ((pNo r, pEv r, pPk r, pEp r, pLf r, pNd r, pOn r, pKy r, fup (pCh r) l (some c2), pRn r) : PeS) y
    exact h.ntb (hwn E) (hevn E hE) (hchn E)
  · refine h.set hr (hwn E) (hevn E hE) hrn (hchn E) (fun k hk ho2 hki => ?_) (fun j p k hp hp0 hk hki => ?_) (fun z => ⟨rfl, rfl, rfl⟩) (fun e2 z k s2 T2 hs2 hT2 hc2 => (hCm i r k s2 T2 hr hs2 hT2 hc2).1 e2 z) hN
    · obtain ⟨j, hj⟩ := List.getElem?_of_mem hk
      obtain ⟨e3, E3, l3, r3, -, -, -, w, w2, -⟩ := hPk.2.1 j k hj ho2
      rw [hki, hr] at w; cases w
      exact w2
    · obtain ⟨p2, -, T3, -, -, w⟩ := hRs.l hp
      rcases w with ⟨-, -, -, k3, r3, w1, -, w2, w3, -⟩ | ⟨w, -⟩ | ⟨w, -⟩
      · rw [hk] at w1; cases w1
        rw [hki, hr] at w2; cases w2
        exact w3
      · omega
      · omega
/-- one secret is taken from others -/
theorem fm_1 {ss : List Sec} {K : Ky} {n : Nm} (h : ScOk ss) (hK : KN ss K n) : ∃ s2 i, frm ss K = (s2, i) ∧ ScOk s2 ∧ Pf ss s2 ∧ At s2 i n ∧ (∀ x, x ∈ nms s2 ↔ x ∈ nms ss ∨ x = n) ∧ dVs s2 = dVs ss ∧ s2.length ≤ ss.length + 1 ∧ (SsOk ss → kOk K → SsOk s2) := by
  have hb := hK.b
  obtain ⟨a1, a2, a3, a4, a5⟩ := frm_1 (s2 := (frm ss K).1) (i := (frm ss K).2) h hK rfl
  exact ⟨_, _, rfl, a1, a2, a3, a4, a5, frm_le.2.1, fun z hk => frm_ok z hk hb.1 hb.2⟩
theorem dw_1 {ss : List Sec} (h : ScOk ss) (z : Int32) : ScOk (ss ++ [drw z]) ∧ Pf ss (ss ++ [drw z]) ∧ At (ss ++ [drw z]) ss.length (nD (dVs ss).length) ∧ (∀ x, x ∈ nms (ss ++ [drw z]) ↔ x ∈ nms ss ∨ x = nD (dVs ss).length) ∧ dVs (ss ++ [drw z]) = dVs ss ++ [(drw z).1] := drw_1 (s := drw z) h rfl
theorem chq_up {ss tt : List Sec} {c : ChS} {d : McS} (h : ChQ ss tt c d) {k2 m2 : Nat} (hk : Nq ss tt k2 m2) : ChQ ss tt (k2, c.2.1 + 1, c.2.2) (m2, d.2.1 + 1, d.2.2) := by
  obtain ⟨h1, h2, h3, h4, h5, h6, h7⟩ := h
  exact ⟨hk, by show c.2.1 + 1 = d.2.1 + 1; rw [h2], h3, h4, h5, Nat.le_succ_of_le h6, fun y hy => Nat.lt_succ_of_lt (h7 y hy)⟩
theorem sd_y {C : KsS} {D : MdS} (h : Inv C D) (hC : KsB C) {i e : Nat} {r : PeS} {q : MpS} (hr : (zPs C)[i]? = some r) (hq : (dPs D)[i]? = some q) (he : pEp r = some e) (hms : (zMs C).length < 40) : ∃ (c : ChS) (q1 : List Sec) (k1 : Nat) (q2 : List Sec) (k2 : Nat) (d : McS) (p1 : List Sec) (m1 : Nat) (p2 : List Sec) (m2 : Nat),
    (pCh r (pLf r) = some c ∧ c.2.1 < 99 ∧ frm (zSs C ++ [drw (zZz C)]) (c.1, none, 7) = (q1, k1) ∧ frm q1 (c.1, none, 8) = (q2, k2) ∧ q2.length ≤ (zSs C).length + 3) ∧
    (mEp q = some e ∧ mLf q = pLf r ∧ mCh q (mLf q) = some d ∧ d.1 < (dSs D).length ∧ d.2.1 = c.2.1 ∧ frm (dSs D) (d.1, none, 7) = (p1, m1) ∧ frm (p1 ++ [drw (dZz D)]) (d.1, none, 8) = (p2, m2) ∧ p2.length ≤ (dSs D).length + 3 ∧ NtB (dKs D) (dEs D) ((dPs D).set i ((mEp q, mLf q, mLs q, mRn q, mNd q, fup (mCh q) (mLf q) (some ((m2, d.2.1 + 1, d.2.2) : McS)), mEv q) : MpS)) p2.length ((dMs D).length + 1)) ∧
    ∀ (E : Nat → Bool) (Qs : List MpS), (∀ y, E y = true ↔ pEv r y = true ∨ helP (zKs C) ((pNo r, pEv r, pPk r, pEp r, pLf r, pNd r, pOn r, pKy r, fup (pCh r) (pLf r) (some ((k2, c.2.1 + 1, c.2.2) : ChS)), pRn r) : PeS) y) → NtR (dKs D) (dEs D) ((dPs D).set i ((mEp q, mLf q, mLs q, mRn q, mNd q, fup (mCh q) (mLf q) (some ((m2, d.2.1 + 1, d.2.2) : McS)), mEv q) : MpS)) Qs ((dPs D).set i ((mEp q, mLf q, mLs q, mRn q, mNd q, fup (mCh q) (mLf q) (some ((m2, d.2.1 + 1, d.2.2) : McS)), mEv q) : MpS)).length →
      Inv (q2, zBx C ++ [(k1, (zSs C).length)], lcg (zZz C), (zPs C).set i ((pNo r, E, pPk r, pEp r, pLf r, pNd r, pOn r, pKy r, fup (pCh r) (pLf r) (some ((k2, c.2.1 + 1, c.2.2) : ChS)), pRn r) : PeS), zKs C, zRs C, zTs C, zSt C, zMs C ++ [(e, pLf r, c.2.1, (zSs C).length)], zSo C, zBn C) (p2, dBx D ++ [(m1, p1.length)], dKs D, Qs, dRs D, dEs D, dMs D ++ [((e, mLf q, d.2.1, m1, p1.length) : MmS)], dSo D, 0, lcg (dZz D), dBn D, dCm D) := by
  obtain ⟨⟨hw, hev, hnd⟩, hrn, hch, hhe⟩ := h.2.2.2.2.2.2.2.2.2.2.1.2 i r q hr hq
  have hz := h.2.2.1
  have hbn := h.2.2.2.1
  obtain ⟨hsc, hsd, hdv, hnm⟩ := id h.1
  have hOk := h.2.1
  have hcl := h.ln.2.2.2.2
  have hC1 := hC.1
  have hD1 : (dSs D).length ≤ 900 := by rw [← h.1.len]; exact hC1
  obtain ⟨T, Ep, a1, a2, a3, a4, a5, a6, a7, a8, a9, b1, b2, b3⟩ := hw.2.2.2.2.2 e he
  rcases b2 (pLf r) with ⟨z, -⟩ | ⟨c, d, hc, hd, hcd⟩
  · rw [(b3 (pLf r)).mp z] at a3; cases a3
  have hcd0 := id hcd
  obtain ⟨⟨x, hx, hy⟩, g2, -⟩ := hcd
  -- K
  obtain ⟨u1, u2, u3, u4, u5⟩ := dw_1 hsc (zZz C)
  obtain ⟨q1, k1, hq1, v1, v2, v3, v4, v5, v6, -⟩ := fm_1 u1 (KN.i1 (l := 7) (u2.at hx))
  obtain ⟨q2, k2, hq2, w1, w2, w3, w4, w5, w6, -⟩ := fm_1 v1 (KN.i1 (l := 8) ((u2.tr v2).at hx))
  -- M
  obtain ⟨p1, m1, hp1, s1, s2, s3, s4, s5, s6, s7⟩ := fm_1 hsd (KN.i1 (l := 7) hy)
  obtain ⟨t1, t2, t3, t4, t5⟩ := dw_1 s1 (dZz D)
  obtain ⟨p2, m2, hp2, y1, y2, y3, y4, y5, y6, y7⟩ := fm_1 t1 (KN.i1 (l := 8) ((s2.tr t2).at hy))
  have hpf : Pf (zSs C) q2 := (u2.tr v2).tr w2
  have hpg : Pf (dSs D) p2 := (s2.tr t2).tr y2
  have hdl := hy.lt
  have hok1 := s7 hOk ⟨by have := hy.lt; show d.1 < 1000; omega, Or.inl (by decide)⟩
  have hok2 : SsOk p2 := y7 (SsOk.drw2 hok1 (dZz D)) ⟨by have := hy.lt; show d.1 < 1000; omega, Or.inl (by decide)⟩
  have hS2 : SqS q2 p2 := by
    refine ⟨w1, y1, ?_, fun n => ?_⟩
    · rw [w5, v5, u5, y5, t5, s5, hdv, hz]
    · rw [w4, v4, u4, y4, t4, s4, hnm, hdv, s5]
      constructor
      · rintro (((z | z) | z) | z)
        · exact Or.inl (Or.inl (Or.inl z))
        · exact Or.inl (Or.inr z)
        · exact Or.inl (Or.inl (Or.inr z))
        · exact Or.inr z
      · rintro (((z | z) | z) | z)
        · exact Or.inl (Or.inl (Or.inl z))
        · exact Or.inl (Or.inr z)
        · exact Or.inl (Or.inl (Or.inr z))
        · exact Or.inr z
  have hk2 : Nq q2 p2 k2 m2 := ⟨_, w3, y3⟩
  have hk1 : Nq q2 p2 k1 m1 := ⟨_, w2.at v3, (t2.tr y2).at s3⟩
  have htx : Nq q2 p2 (zSs C).length p1.length := by
    refine ⟨_, (v2.tr w2).at u3, ?_⟩
    have := y2.at t3
    rw [s5, ← hdv] at this
    exact this
  have hB2 : Bq q2 p2 (zBx C ++ [(k1, (zSs C).length)]) (dBx D ++ [(m1, p1.length)]) := (h.bq.up hpf hpg).snoc hk1 htx
  have h1 := h.sec (th := 0) (congrArg lcg hz) hbn hpf hpg hS2 hok2 hB2
  have hcb : c.2.1 ≤ (zMs C).length := hch _ c hc
  have h2 := h1.msg (m := ((e, pLf r, c.2.1, (zSs C).length) : MsS)) (p := ((e, mLf q, d.2.1, m1, p1.length) : MmS)) ⟨rfl, a4.symm, g2, htx, hcb, T, a1, by show T.2.2.2 (pLf r) ≠ none; rw [a3]; simp⟩
  have hcd2 : ChQ q2 p2 ((k2, c.2.1 + 1, c.2.2) : ChS) ((m2, d.2.1 + 1, d.2.2) : McS) := chq_up (hcd0.up hpf hpg) hk2
  have h3 := h2.ch (i := i) (e := e) (l := pLf r) (r := r) (q := q) (c := c) hr hq he hc hcd2 (by show c.2.1 + 1 ≤ (zMs C ++ [_]).length; rw [List.length_append]; exact Nat.add_le_add_right hcb 1)
  have hfu : fup (mCh q) (mLf q) (some ((m2, d.2.1 + 1, d.2.2) : McS)) = fup (mCh q) (pLf r) (some ((m2, d.2.1 + 1, d.2.2) : McS)) := by rw [a4]
  refine ⟨c, q1, k1, q2, k2, d, p1, m1, p2, m2, ⟨hc, by omega, hq1, hq2, ?_⟩, ⟨by rw [hw.2.1]; exact he, a4, by rw [a4]; exact hd, hy.lt, g2.symm, hp1, hp2, ?_, ?_⟩, fun E Qs hE hN => ?_⟩
  · rw [List.length_append, List.length_singleton] at v6; omega
  · rw [List.length_append, List.length_singleton] at y6; omega
  · have h4 := h3.1
    rw [hfu]
    have e1 : (dMs D).length + 1 = (dMs D ++ [((e, mLf q, d.2.1, m1, p1.length) : MmS)]).length := by rw [List.length_append]; rfl
    rw [e1]
    exact h4
  · rw [hfu] at hN
    exact h3.2 E Qs hE hN
