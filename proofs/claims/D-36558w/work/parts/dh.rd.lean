set_option maxRecDepth 100000
/-! ===== reading ===== -/
/-- one secret is taken from others, on both sides -/
theorem SqS.fm {ss tt : List Sec} (h : SqS ss tt) {K L : Ky} {n : Nm} (hK : KN ss K n) (hL : KN tt L n) : ∃ s2 i t2 j, frm ss K = (s2, i) ∧ frm tt L = (t2, j) ∧ SqS s2 t2 ∧ Pf ss s2 ∧ Pf tt t2 ∧ At s2 i n ∧ At t2 j n ∧ s2.length ≤ ss.length + 1 ∧ (SsOk tt → kOk L → SsOk t2) := by
  obtain ⟨h1, h2, h3, h4⟩ := h
  obtain ⟨s2, i, e1, a1, a2, a3, a4, a5, a6, a7⟩ := fm_1 h1 hK
  obtain ⟨t2, j, e2, b1, b2, b3, b4, b5, b6, b7⟩ := fm_1 h2 hL
  exact ⟨s2, i, t2, j, e1, e2, ⟨a1, b1, by rw [a5, b5, h3], fun x => by rw [a4, b4, h4]⟩, a2, b2, a3, b3, a6, b7⟩
/-- along a chain, on both sides -/
def RdQ (ss tt : List Sec) (S : RdS) (U : RdM) (k : Nat) : Prop := SqS S.1 U.1 ∧ SsOk U.1 ∧ Pf ss S.1 ∧ Pf tt U.1 ∧ ChQ S.1 U.1 S.2 U.2 ∧ S.1.length ≤ ss.length + 2 * k
theorem rd_step {ss tt : List Sec} {S : RdS} {U : RdM} {k : Nat} (h : RdQ ss tt S U k) (hl : ss.length + 2 * k ≤ 990) : RdQ ss tt (rd1 S) (rdm1 U) (k + 1) := by
  obtain ⟨h1, h2, h3, h4, h5, h6⟩ := h
  obtain ⟨⟨x, hx, hy⟩, g2, g3, g4, g5, g6, g7⟩ := id h5
  have hyl := hy.lt
  have hul := h1.len
  obtain ⟨s2, i, t2, j, e1, e2, a1, a2, a3, a4, a5, a6, a7⟩ := h1.fm (KN.i1 (l := 7) hx) (KN.i1 (l := 7) hy)
  obtain ⟨s3, i3, t3, j3, e3, e4, b1, b2, b3, b4, b5, b6, b7⟩ := a1.fm (KN.i1 (l := 8) (a2.at hx)) (KN.i1 (l := 8) (a3.at hy))
  have hk : ∀ l, l < 10 → kOk ((U.2.1, none, l) : Ky) := fun l hl => ⟨by show U.2.1 < 1000; omega, Or.inl hl⟩
  have er : rd1 S = (s3, (i3, S.2.2.1 + 1, fup S.2.2.2 S.2.2.1 (some i))) := by unfold rd1; rw [e1, e3]
  rw [er, rdm_s e2 e4]
  refine ⟨b1, b7 (a7 h2 (hk 7 (by decide))) (hk 8 (by decide)), (h3.tr a2).tr b2, (h4.tr a3).tr b3, ?_, by show s3.length ≤ _; omega⟩
  have hp := a2.tr b2
  have hq := a3.tr b3
  have hnk : ∀ y, (S.2.2.1, y) ∉ U.2.2.2 := fun y hy => by have := g7 _ hy; rw [g2] at this; exact Nat.lt_irrefl _ this
  refine ⟨⟨_, b4, b5⟩, by show S.2.2.1 + 1 = U.2.2.1 + 1; rw [g2], ?_, ?_, ?_, ?_, ?_⟩
  · show ((U.2.2.2 ++ [(U.2.2.1, j)]).map (·.1)).Nodup
    rw [List.map_append]
    refine nd_sn g3 fun z => ?_
    obtain ⟨⟨a, y⟩, hm, e⟩ := List.mem_map.mp z
    have e : a = U.2.2.1 := e
    rw [e, ← g2] at hm
    exact hnk y hm
  · intro p z hz
    have hz : fup S.2.2.2 S.2.2.1 (some i) p = some z := hz
    unfold fup at hz
    by_cases e : p = S.2.2.1
    · rw [if_pos e] at hz; cases hz
      exact ⟨j, List.mem_append_right _ (by rw [e, g2]; exact List.mem_cons_self), _, b2.at a4, b3.at a5⟩
    · rw [if_neg e] at hz
      obtain ⟨y, y1, y2⟩ := g4 p z hz
      exact ⟨y, List.mem_append_left _ y1, y2.up hp hq⟩
  · intro p y hy
    show ∃ x, fup S.2.2.2 S.2.2.1 (some i) p = some x ∧ _
    unfold fup
    rcases List.mem_append.mp hy with z | z
    · obtain ⟨x, x1, x2⟩ := g5 p y z
      rw [if_neg (fun e => hnk y (by rw [← e]; exact z))]
      exact ⟨x, x1, x2.up hp hq⟩
    · have z := List.mem_singleton.mp z
      injection z with z1 z2
      rw [z1, z2, ← g2, if_pos rfl]
      exact ⟨i, rfl, _, b2.at a4, b3.at a5⟩
  · show (U.2.2.2 ++ [_]).length ≤ U.2.2.1 + 1
    rw [List.length_append]; exact Nat.add_le_add_right g6 1
  · intro y hy
    show y.1 < U.2.2.1 + 1
    rcases List.mem_append.mp hy with z | z
    · exact Nat.lt_succ_of_lt (g7 y z)
    · rw [List.mem_singleton.mp z]; exact Nat.lt_succ_self _
theorem rd_run {ss tt : List Sec} {c : ChS} {d : McS} (hS : SqS ss tt) (hOk : SsOk tt) (hcd : ChQ ss tt c d) : ∀ k, ss.length + 2 * k ≤ 992 → RdQ ss tt (rdK (ss, c) k) (rdmK (tt, d) k) k ∧ (rdK (ss, c) k).2.2.1 = c.2.1 + k
  | 0, _ => ⟨⟨hS, hOk, Pf.rfl, Pf.rfl, hcd, Nat.le_refl _⟩, rfl⟩
  | k + 1, h => by
    obtain ⟨h1, h2⟩ := rd_run hS hOk hcd k (by omega)
    exact ⟨rd_step h1 (by omega), by show (rdK (ss, c) k).2.2.1 + 1 = _; rw [h2]; rfl⟩
theorem mem_er {l : List (Nat × Nat)} {jj p : Nat} (hnd : (l.map (·.1)).Nodup) (hj : (l.map (·.1))[jj]? = some p) (a y : Nat) : (a, y) ∈ l.eraseIdx jj ↔ (a, y) ∈ l ∧ a ≠ p := by
  rw [List.mem_eraseIdx_iff_getElem?]
  constructor
  · rintro ⟨i, hi, h⟩
    refine ⟨List.mem_of_getElem? h, fun e => hi ?_⟩
    have h2 : (l.map (·.1))[i]? = some p := by rw [List.getElem?_map, h, ← e]; rfl
    exact (List.getElem?_inj (by have := get_lt2 h2; exact this) hnd).mp (h2.trans hj.symm)
  · rintro ⟨h, e⟩
    obtain ⟨i, hi⟩ := List.getElem?_of_mem h
    refine ⟨i, fun z => ?_, hi⟩
    rw [← z, List.getElem?_map, hi] at hj
    exact e (Option.some.inj hj)
theorem chq_er {ss tt : List Sec} {c : ChS} {d : McS} (h : ChQ ss tt c d) {jj p : Nat} (hj : (d.2.2.map (·.1))[jj]? = some p) : ChQ ss tt (c.1, c.2.1, fup c.2.2 p none) (d.1, d.2.1, d.2.2.eraseIdx jj) := by
  obtain ⟨h1, h2, h3, h4, h5, h6, h7⟩ := h
  have hm := mem_er h3 hj
  refine ⟨h1, h2, List.Nodup.sublist ((List.eraseIdx_sublist _ _).map _) h3, fun a x hx => ?_, fun a y hy => ?_, Nat.le_trans (List.eraseIdx_sublist _ _).length_le h6, fun y hy => h7 y (List.mem_of_mem_eraseIdx hy)⟩
  · have hx : fup c.2.2 p none a = some x := hx
    unfold fup at hx
    by_cases e : a = p
    · rw [if_pos e] at hx; cases hx
    · rw [if_neg e] at hx
      obtain ⟨y, y1, y2⟩ := h4 a x hx
      exact ⟨y, (hm a y).mpr ⟨y1, e⟩, y2⟩
  · have hy : (a, y) ∈ d.2.2.eraseIdx jj := hy
    obtain ⟨y1, y2⟩ := (hm a y).mp hy
    obtain ⟨x, x1, x2⟩ := h5 a y y1
    refine ⟨x, ?_, x2⟩
    show fup c.2.2 p none a = _
    unfold fup
    rw [if_neg y2]; exact x1
theorem rd_hchx {C : KsS} {D : MdS} (h : Inv C D) {i k : Nat} {r : PeS} {q : MpS} {m : MsS} {p : MmS} (hr : (zPs C)[i]? = some r) (hq : (dPs D)[i]? = some q) (hm : (zMs C)[k]? = some m) (hp : (dMs D)[k]? = some p) (he : pEp r = some m.1) : ∃ c d, pCh r m.2.1 = some c ∧ mCh q p.2.1 = some d ∧ ChQ (zSs C) (dSs D) c d := by
  obtain ⟨⟨hw, -, -⟩, -⟩ := h.2.2.2.2.2.2.2.2.2.2.1.2 i r q hr hq
  obtain ⟨g1, g2, g3, g4, g5, T, hT, hne⟩ := h.ms.2 k m p hm hp
  obtain ⟨T2, Ep, a1, a2, a3, a4, a5, a6, a7, a8, a9, b1, b2, b3⟩ := hw.2.2.2.2.2 m.1 he
  rw [hT] at a1; cases a1
  rw [← g2]
  rcases b2 m.2.1 with ⟨z, -⟩ | ⟨c, d, hc, hd, hcd⟩
  · exact absurd ((b3 _).mp z) hne
  · exact ⟨c, d, hc, hd, hcd⟩
theorem rd_can {C : KsS} {D : MdS} (h : Inv C D) {i k : Nat} {r : PeS} {q : MpS} {m : MsS} {p : MmS} (hr : (zPs C)[i]? = some r) (hq : (dPs D)[i]? = some q) (hm : (zMs C)[k]? = some m) (hp : (dMs D)[k]? = some p) : (rdCan r m ↔ rdCanM q p) ∧ (pEp r = some m.1 → (rdHas r m ↔ rdHasM q p)) := by
  obtain ⟨⟨hw, -, -⟩, -⟩ := h.2.2.2.2.2.2.2.2.2.2.1.2 i r q hr hq
  obtain ⟨g1, g2, g3, g4, g5, T, hT, hne⟩ := h.ms.2 k m p hm hp
  constructor
  · constructor
    · rintro ⟨c, h1, h2, h3⟩
      obtain ⟨c2, d, e1, e2, e3⟩ := rd_hchx h hr hq hm hp h1
      rw [h2] at e1; cases e1
      exact ⟨d, by rw [hw.2.1, ← g1]; exact h1, e2, by rw [← g3, ← e3.2.1]; exact h3⟩
    · rintro ⟨d, h1, h2, h3⟩
      have h1 : pEp r = some m.1 := by rw [← hw.2.1, g1]; exact h1
      obtain ⟨c, d2, e1, e2, e3⟩ := rd_hchx h hr hq hm hp h1
      rw [h2] at e2; cases e2
      exact ⟨c, h1, e1, by rw [g3, e3.2.1]; exact h3⟩
  · intro h1
    obtain ⟨c, d, e1, e2, e3⟩ := rd_hchx h hr hq hm hp h1
    have key : c.2.2 m.2.2.1 ≠ none ↔ p.2.2.1 ∈ d.2.2.map (·.1) := by
      rw [← g3, List.mem_map]
      constructor
      · intro z
        cases e : c.2.2 m.2.2.1 with
        | none => exact absurd e z
        | some x =>
          obtain ⟨y, y1, -⟩ := e3.2.2.2.1 _ x e
          exact ⟨_, y1, rfl⟩
      · rintro ⟨⟨a, y⟩, y1, y2⟩
        have y2 : a = m.2.2.1 := y2
        obtain ⟨x, x1, -⟩ := e3.2.2.2.2.1 a y y1
        rw [← y2, x1]; simp
    constructor
    · rintro ⟨c2, z1, z2⟩
      rw [e1] at z1; cases z1
      exact ⟨d, e2, fun w => key.mp (z2 (by rw [g3, e3.2.1]; exact w))⟩
    · rintro ⟨d2, z1, z2⟩
      rw [e2] at z1; cases z1
      exact ⟨c, e1, fun w => key.mpr (z2 (by rw [← g3, ← e3.2.1]; exact w))⟩
theorem rd_hmb {C : KsS} {D : MdS} (h : Inv C D) (hC : KsB C) : (∀ m ∈ zMs C, m.1 < 100 ∧ m.2.1 < 16 ∧ m.2.2.1 < 100 ∧ m.2.2.2 < (zSs C).length) ∧ ∀ q ∈ dMs D, q.1 < 100 ∧ q.2.1 < 16 ∧ q.2.2.1 < 100 ∧ q.2.2.2.2 < (dSs D).length := by
  have key : ∀ (k : Nat) (m : MsS) (p : MmS), (zMs C)[k]? = some m → (dMs D)[k]? = some p → (m.1 < 100 ∧ m.2.1 < 16 ∧ m.2.2.1 < 100 ∧ m.2.2.2 < (zSs C).length) ∧ p.1 < 100 ∧ p.2.1 < 16 ∧ p.2.2.1 < 100 ∧ p.2.2.2.2 < (dSs D).length := by
    intro k m p hm hp
    obtain ⟨g1, g2, g3, g4, g5, T, hT, hne⟩ := h.ms.2 k m p hm hp
    have h1 := get_lt2 hT
    have h2 := get_lt2 hm
    have h3 := hC.2.2.2.2.2.1
    have h4 := hC.2.2.2.2.2.2.2.1
    have h5 : m.2.1 < 16 := by
      cases e : T.2.2.2 m.2.1 with
      | none => exact absurd e hne
      | some x => exact (h.tr T (List.mem_of_getElem? hT)).leaf e
    have h6 := g4.lt
    refine ⟨⟨by omega, h5, by omega, h6.1⟩, by omega, by omega, by omega, h6.2⟩
  constructor
  · intro m hm
    obtain ⟨k, hk⟩ := List.getElem?_of_mem hm
    obtain ⟨p, hp, -⟩ := h.ms.l hk
    exact (key k m p hk hp).1
  · intro p hp
    obtain ⟨k, hk⟩ := List.getElem?_of_mem hp
    obtain ⟨m, hm, -⟩ := h.ms.r hk
    exact (key k m p hm hk).2
/-- an old message -/
theorem rd_o {C : KsS} {D : MdS} (h : Inv C D) {i j jj : Nat} {r : PeS} {q : MpS} {m : MsS} {p : MmS} {c : ChS} {d : McS} (hr : (zPs C)[i]? = some r) (hq : (dPs D)[i]? = some q) (hm : (zMs C)[j]? = some m) (hp : (dMs D)[j]? = some p) (he : pEp r = some m.1) (hc : pCh r m.2.1 = some c) (hd : mCh q p.2.1 = some d) (hcd : ChQ (zSs C) (dSs D) c d) (hlt : m.2.2.1 < c.2.1) (hjj : (d.2.2.map (·.1))[jj]? = some p.2.2.1) : vl (zSs C) m.2.2.2 = vl (dSs D) p.2.2.2.2 ∧ rdF ((zSs C, c) : RdS) m.2.2.1 = (zSs C, (c.1, c.2.1, fup c.2.2 m.2.2.1 none)) ∧ NtB (dKs D) (dEs D) ((dPs D).set i ((mEp q, mLf q, mLs q, mRn q, mNd q, fup (mCh q) p.2.1 (some ((d.1, d.2.1, d.2.2.eraseIdx jj) : McS)), mEv q) : MpS)) (dSs D).length (dMs D).length ∧ ∀ (E : Nat → Bool) (Qs : List MpS), (∀ y, E y = true ↔ pEv r y = true ∨ helP (zKs C) ((pNo r, pEv r, pPk r, pEp r, pLf r, pNd r, pOn r, pKy r, fup (pCh r) m.2.1 (some ((c.1, c.2.1, fup c.2.2 m.2.2.1 none) : ChS)), pRn r) : PeS) y) → NtR (dKs D) (dEs D) ((dPs D).set i ((mEp q, mLf q, mLs q, mRn q, mNd q, fup (mCh q) p.2.1 (some ((d.1, d.2.1, d.2.2.eraseIdx jj) : McS)), mEv q) : MpS)) Qs ((dPs D).set i ((mEp q, mLf q, mLs q, mRn q, mNd q, fup (mCh q) p.2.1 (some ((d.1, d.2.1, d.2.2.eraseIdx jj) : McS)), mEv q) : MpS)).length → Inv (zSs C, zBx C, zZz C, (zPs C).set i ((pNo r, E, pPk r, pEp r, pLf r, pNd r, pOn r, pKy r, fup (pCh r) m.2.1 (some ((c.1, c.2.1, fup c.2.2 m.2.2.1 none) : ChS)), pRn r) : PeS), zKs C, zRs C, zTs C, zSt C, zMs C, zSo C, zBn C) (dSs D, dBx D, dKs D, Qs, dRs D, dEs D, dMs D, dSo D, 0, dZz D, dBn D, dCm D) := by
  obtain ⟨g1, g2, g3, g4, g5, T, hT, hne⟩ := h.ms.2 j m p hm hp
  obtain ⟨-, -, hch, -⟩ := h.2.2.2.2.2.2.2.2.2.2.1.2 i r q hr hq
  have hjj2 : (d.2.2.map (·.1))[jj]? = some m.2.2.1 := by rw [g3]; exact hjj
  have h2 := h.ch (c2 := ((c.1, c.2.1, fup c.2.2 m.2.2.1 none) : ChS)) (d2 := ((d.1, d.2.1, d.2.2.eraseIdx jj) : McS)) hr hq he hc (chq_er hcd hjj2) (hch _ c hc)
  rw [← g2]
  exact ⟨h.1.vl g4, by unfold rdF; rw [if_pos hlt], h2⟩
/-- a new message -/
theorem rd_n {C : KsS} {D : MdS} (h : Inv C D) (hC : KsB C) {i j : Nat} {r : PeS} {q : MpS} {m : MsS} {p : MmS} {c : ChS} {d : McS} (hr : (zPs C)[i]? = some r) (hq : (dPs D)[i]? = some q) (hm : (zMs C)[j]? = some m) (hp : (dMs D)[j]? = some p) (he : pEp r = some m.1) (hc : pCh r m.2.1 = some c) (hd : mCh q p.2.1 = some d) (hcd : ChQ (zSs C) (dSs D) c d) (hge : ¬ m.2.2.1 < c.2.1) (hle : m.2.2.1 ≤ c.2.1 + 4) : ∃ (F : RdS) (fs : List Sec) (fi : Nat), rdF ((zSs C, c) : RdS) m.2.2.1 = F ∧ frm (rdmK ((dSs D, d) : RdM) (p.2.2.1 - d.2.1)).1 ((rdmK ((dSs D, d) : RdM) (p.2.2.1 - d.2.1)).2.1, none, 8) = (fs, fi) ∧ vl F.1 m.2.2.2 = vl fs p.2.2.2.2 ∧
    (∀ k, k ≤ (m.2.2.1 - c.2.1) → (rdK ((zSs C, c) : RdS) k).2.1 < (rdK ((zSs C, c) : RdS) k).1.length ∧ (rdK ((zSs C, c) : RdS) k).1.length ≤ (zSs C).length + 8) ∧ (∀ k, k ≤ (p.2.2.1 - d.2.1) → (rdmK ((dSs D, d) : RdM) k).2.1 < (rdmK ((dSs D, d) : RdM) k).1.length ∧ (rdmK ((dSs D, d) : RdM) k).1.length ≤ (dSs D).length + 8) ∧ F.1.length ≤ (zSs C).length + 9 ∧ fs.length ≤ (dSs D).length + 9 ∧ (dSs D).length ≤ fs.length ∧
    NtB (dKs D) (dEs D) ((dPs D).set i ((mEp q, mLf q, mLs q, mRn q, mNd q, fup (mCh q) p.2.1 (some ((fi, p.2.2.1 + 1, (rdmK ((dSs D, d) : RdM) (p.2.2.1 - d.2.1)).2.2.2) : McS)), mEv q) : MpS)) fs.length (dMs D).length ∧ ∀ (E : Nat → Bool) (Qs : List MpS), (∀ y, E y = true ↔ pEv r y = true ∨ helP (zKs C) ((pNo r, pEv r, pPk r, pEp r, pLf r, pNd r, pOn r, pKy r, fup (pCh r) m.2.1 (some F.2), pRn r) : PeS) y) → NtR (dKs D) (dEs D) ((dPs D).set i ((mEp q, mLf q, mLs q, mRn q, mNd q, fup (mCh q) p.2.1 (some ((fi, p.2.2.1 + 1, (rdmK ((dSs D, d) : RdM) (p.2.2.1 - d.2.1)).2.2.2) : McS)), mEv q) : MpS)) Qs ((dPs D).set i ((mEp q, mLf q, mLs q, mRn q, mNd q, fup (mCh q) p.2.1 (some ((fi, p.2.2.1 + 1, (rdmK ((dSs D, d) : RdM) (p.2.2.1 - d.2.1)).2.2.2) : McS)), mEv q) : MpS)).length → Inv (F.1, zBx C, zZz C, (zPs C).set i ((pNo r, E, pPk r, pEp r, pLf r, pNd r, pOn r, pKy r, fup (pCh r) m.2.1 (some F.2), pRn r) : PeS), zKs C, zRs C, zTs C, zSt C, zMs C, zSo C, zBn C) (fs, dBx D, dKs D, Qs, dRs D, dEs D, dMs D, dSo D, 0, dZz D, dBn D, dCm D) := by
  obtain ⟨g1, g2, g3, g4, g5, T, hT, hne⟩ := h.ms.2 j m p hm hp
  obtain ⟨-, -, hch, -⟩ := h.2.2.2.2.2.2.2.2.2.2.1.2 i r q hr hq
  have hC1 := hC.1
  have hlen := h.1.len
  have hkl : p.2.2.1 - d.2.1 = m.2.2.1 - c.2.1 := by rw [← g3, ← hcd.2.1]
  have hk4 : m.2.2.1 - c.2.1 ≤ 4 := by omega
  have hrun := fun k (hk : k ≤ m.2.2.1 - c.2.1) => rd_run h.1 h.2.1 hcd k (by omega)
  obtain ⟨⟨b1, b2, b3, b4, b5, b6⟩, b7⟩ := hrun _ (Nat.le_refl _)
  rw [hkl]
  obtain ⟨⟨x, hx, hy⟩, f2, f3, f4, f5, f6, f7⟩ := id b5
  have hyl := hy.lt
  have hul := b1.len
  obtain ⟨s2, i2, t2, j2, e1, e2, a1, a2, a3, a4, a5, a6, a7⟩ := b1.fm (KN.i1 (l := 8) hx) (KN.i1 (l := 8) hy)
  have hok2 := a7 b2 ⟨by show (rdmK ((dSs D, d) : RdM) (m.2.2.1 - c.2.1)).2.1 < 1000; omega, Or.inl (by decide)⟩
  have hpf := b3.tr a2
  have hpg := b4.tr a3
  have hfd : rdF ((zSs C, c) : RdS) m.2.2.1 = (s2, (i2, (rdK ((zSs C, c) : RdS) (m.2.2.1 - c.2.1)).2.2.1 + 1, (rdK ((zSs C, c) : RdS) (m.2.2.1 - c.2.1)).2.2.2)) := by
    unfold rdF; rw [if_neg hge]
    show ((frm (rdK ((zSs C, c) : RdS) (m.2.2.1 - c.2.1)).1 _).1, _) = _
    rw [e1]
  have hpl : (rdmK ((dSs D, d) : RdM) (m.2.2.1 - c.2.1)).2.2.1 = p.2.2.1 := by rw [← f2, b7, ← g3]; omega
  have h1 := h.sec (b := []) (c := []) (th := 0) h.2.2.1 h.2.2.2.1 hpf hpg a1 hok2 (by rw [List.append_nil, List.append_nil]; exact h.bq.up hpf hpg)
  rw [List.append_nil, List.append_nil] at h1
  have hcd2 : ChQ s2 t2 (i2, (rdK ((zSs C, c) : RdS) (m.2.2.1 - c.2.1)).2.2.1 + 1, (rdK ((zSs C, c) : RdS) (m.2.2.1 - c.2.1)).2.2.2) (j2, p.2.2.1 + 1, (rdmK ((dSs D, d) : RdM) (m.2.2.1 - c.2.1)).2.2.2) := by
    have := chq_up (b5.up a2 a3) (⟨_, a4, a5⟩ : Nq s2 t2 i2 j2)
    rw [hpl] at this
    exact this
  have hml := get_lt2 hm
  have h2 := h1.ch (i := i) (e := m.1) (l := m.2.1) (r := r) (q := q) (c := c) hr hq he hc hcd2 (by show (rdK ((zSs C, c) : RdS) (m.2.2.1 - c.2.1)).2.2.1 + 1 ≤ (zMs C).length; rw [b7]; omega)
  refine ⟨_, t2, j2, hfd, e2, ?_, fun k hk => ?_, fun k hk => ?_, ?_, ?_, hpg.len, ?_⟩
  · exact a1.vl (g4.up hpf hpg)
  · obtain ⟨⟨c1, c2, c3, c4, c5, c6⟩, -⟩ := hrun k hk
    exact ⟨c5.1.lt.1, by omega⟩
  · obtain ⟨⟨c1, c2, c3, c4, c5, c6⟩, -⟩ := hrun k hk
    have := c1.len
    exact ⟨c5.1.lt.2, by omega⟩
  · show s2.length ≤ _; omega
  · have := a1.len; omega
  · rw [← g2]; exact h2
