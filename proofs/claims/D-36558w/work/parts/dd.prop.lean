set_option maxRecDepth 100000
/-! ===== proposals ===== -/
theorem LQ.any {α β : Type} {R : Nat → α → β → Prop} {f : α → Bool} {g : β → Bool} : ∀ {xs : List α} {ys : List β}, LQ R xs ys → (∀ (k : Nat) (x : α) (y : β), xs[k]? = some x → ys[k]? = some y → R k x y → f x = g y) → xs.any f = ys.any g := by
  intro xs ys h hf
  have key : ∀ b, (xs.any f = b ↔ ys.any g = b) → True := fun _ _ => trivial
  rw [Bool.eq_iff_iff, List.any_eq_true, List.any_eq_true]
  constructor
  · rintro ⟨x, hx, h1⟩
    obtain ⟨k, hk⟩ := List.getElem?_of_mem hx
    obtain ⟨y, hy, hr⟩ := h.l hk
    exact ⟨y, List.mem_of_getElem? hy, by rw [← hf k x y hk hy hr]; exact h1⟩
  · rintro ⟨y, hy, h1⟩
    obtain ⟨k, hk⟩ := List.getElem?_of_mem hy
    obtain ⟨x, hx, hr⟩ := h.r hk
    exact ⟨x, List.mem_of_getElem? hx, by rw [hf k x y hx hk hr]; exact h1⟩
theorem lof_eq {T U : TrS} (h1 : T.1 = U.1) (h2 : ∀ l, T.2.2.2 l = U.2.2.2 l) (p : Nat) : lof T p = lof U p := by
  unfold lof
  rw [h1]
  have e : (fun l => T.2.2.2 l == some p) = fun l => U.2.2.2 l == some p := by funext l; rw [h2]
  rw [e]
theorem Inv.isF {C : KsS} {D : MdS} (h : Inv C D) {i : Nat} {r : PeS} {q : MpS} (hr : (zPs C)[i]? = some r) (hq : (dPs D)[i]? = some q) : isF (dEs D).length (mEp q) = isF (zTs C).length (pEp r) := by
  obtain ⟨⟨hw, -, -⟩, -⟩ := h.2.2.2.2.2.2.2.2.2.2.1.2 i r q hr hq
  rw [hw.2.1, h.2.2.2.2.2.2.2.2.1.1]
theorem PrQ.k {C : KsS} {D : MdS} {q : PrS} {p : MrS} (h : PrQ C D q p) : (q.1 = 0 ∧ p.1 = 97 ∧ p.2.2 = q.2.1) ∨ (q.1 = 1 ∧ p.1 = 114 ∧ p.2.2 = q.2.1) ∨ (q.1 = 2 ∧ p.1 = 110 ∧ Nq (zSs C) (dSs D) q.2.2 p.2.2) := by
  obtain ⟨T, -, -, w⟩ := h
  rcases w with ⟨a, b, c, -⟩ | ⟨a, b, c, -⟩ | ⟨a, b, c, -⟩
  · exact Or.inl ⟨a, b, c⟩
  · exact Or.inr (Or.inl ⟨a, b, c⟩)
  · exact Or.inr (Or.inr ⟨a, b, c⟩)
theorem Inv.adB {C : KsS} {D : MdS} (h : Inv C D) (p : Nat) : adB (zKs C) (zRs C) p = prA (dKs D) (dRs D) p := by
  obtain ⟨hS, hOk, hz, hbn, hcm, hB, hK, hR, hE, hSt, hP, hM, hSo, hSn, hPk, hPr, hRo, hCm⟩ := h
  refine hR.any fun k x y hx hy hr => ?_
  have hk := hr.k
  unfold adP
  rcases hk with ⟨a, b, c⟩ | ⟨a, b, c⟩ | ⟨a, b, c⟩
  · rw [a, b, c]
    cases e : (zKs C)[x.2.1]? with
    | none =>
      have e2 : (dKs D)[x.2.1]? = none := by
        rw [List.getElem?_eq_none_iff] at e ⊢
        rw [← hK.1]; exact e
      rw [e2]; rfl
    | some z =>
      obtain ⟨z2, e2, hz2⟩ := hK.l e
      rw [e2]
      simp [hz2.1]
  · rw [a, b]; rfl
  · rw [a, b]; rfl
theorem Inv.rmB {C : KsS} {D : MdS} (h : Inv C D) (l : Nat) : rmB (zRs C) l = prR (dRs D) l := by
  refine h.2.2.2.2.2.2.2.1.any fun k x y hx hy hr => ?_
  rcases hr.k with ⟨a, b, c⟩ | ⟨a, b, c⟩ | ⟨a, b, c⟩
  · rw [a, b]; rfl
  · rw [a, b, c]; rfl
  · rw [a, b]; rfl
theorem Inv.last {C : KsS} {D : MdS} (h : Inv C D) (hne : zTs C ≠ []) : ∃ T Ep, (zTs C)[(zTs C).length - 1]? = some T ∧ (dEs D)[(dEs D).length - 1]? = some Ep ∧ TrI T ∧ TrQ (zSs C) (dSs D) T (eTr Ep) := by
  have hE := h.2.2.2.2.2.2.2.2.1
  have hl : 0 < (zTs C).length := List.length_pos_iff.mpr hne
  obtain ⟨T, hT⟩ := get_ex (xs := zTs C) (i := (zTs C).length - 1) (by omega)
  obtain ⟨Ep, hEp, hQ⟩ := hE.l hT
  exact ⟨T, Ep, hT, by rw [← hE.1]; exact hEp, hQ.2.1.1, hQ.2.2.1⟩
theorem Inv.nil {C : KsS} {D : MdS} (h : Inv C D) : zTs C = [] ↔ dEs D = [] := by
  have hE := h.2.2.2.2.2.2.2.2.1.1
  rw [← List.length_eq_zero_iff, ← List.length_eq_zero_iff, hE]
theorem isF_ln {n : Nat} {e : Option Nat} (h : isF n e = true) : ∃ m, e = some m ∧ m + 1 = n := by
  cases e with
  | none => exact absurd h isF_n
  | some m => unfold isF at h; exact ⟨m, rfl, by simpa using h⟩
theorem ad_can {C : KsS} {D : MdS} (h : Inv C D) {i j : Nat} {r r2 : PeS} {q q2 : MpS} {k : PkS} {m : MkS} {T : TrS} {Ep : MeS} (hr : (zPs C)[i]? = some r) (hq : (dPs D)[i]? = some q) (hk : (zKs C)[j]? = some k) (hm : (dKs D)[j]? = some m) (hr2 : (zPs C)[k.1]? = some r2) (hq2 : (dPs D)[m.1]? = some q2) (hT : TrQ (zSs C) (dSs D) T (eTr Ep)) : adCan C T r k r2 ↔ adCanM D Ep q m q2 := by
  have hK := h.2.2.2.2.2.2.1.2 j k m hk hm
  have hq2' := hq2
  rw [← hK.1] at hq2'
  obtain ⟨⟨hw, -, -⟩, -⟩ := h.2.2.2.2.2.2.2.2.2.2.1.2 _ r2 q2 hr2 hq2'
  unfold adCan adCanM
  rw [h.isF hr hq, hK.2.2.2.1, hK.1, lof_eq hT.1 hT.2.2.2, h.adB, hw.2.1]
theorem rm_can {C : KsS} {D : MdS} (h : Inv C D) {i j : Nat} {r : PeS} {q : MpS} {T : TrS} {Ep : MeS} (hr : (zPs C)[i]? = some r) (hq : (dPs D)[i]? = some q) (hI : TrI T) (hT : TrQ (zSs C) (dSs D) T (eTr Ep)) : rmCan C T r j ↔ rmCanM D Ep q j := by
  unfold rmCan rmCanM
  rw [h.isF hr hq, h.rmB, ← (hT.2.1 (2 * j)).no, ← hI.2.1 j]
/-- who has renewed has proposed it -/
theorem rn_pr {C : KsS} {D : MdS} (h : Inv C D) {i : Nat} {r : PeS} (hr : (zPs C)[i]? = some r) (hf : isF (zTs C).length (pEp r) = true) : prN (dRs D) i = true ↔ pRn r ≠ none := by
  have hR := h.2.2.2.2.2.2.2.1
  obtain ⟨q, hq, ⟨hw, -, -⟩, hrn, -⟩ := h.2.2.2.2.2.2.2.2.2.2.1.l hr
  obtain ⟨e, he, hl⟩ := isF_ln hf
  obtain ⟨T, Ep, a1, a2, a3, -⟩ := hw.2.2.2.2.2 e he
  have h2 := (hrn e he).2 hl
  unfold prN
  rw [List.any_eq_true]
  constructor
  · rintro ⟨p, hp, h3⟩
    obtain ⟨k, hk⟩ := List.getElem?_of_mem hp
    obtain ⟨x, hx, T2, hT2, -, w⟩ := hR.r hk
    simp at h3
    rcases w with ⟨-, w, -⟩ | ⟨-, w, -⟩ | ⟨-, -, -, s, w4, w5, w6, w7⟩
    · omega
    · omega
    · rw [h3.2, hr] at w4; cases w4
      rw [w7]; simp
  · intro h3
    cases e2 : pRn r with
    | none => exact absurd e2 h3
    | some x =>
      obtain ⟨k, hk⟩ := List.getElem?_of_mem ((h2 x).mp e2)
      obtain ⟨p, hp, T2, hT2, -, w⟩ := hR.l hk
      rcases w with ⟨w, -⟩ | ⟨w, -⟩ | ⟨-, w2, -, s, w4, w5, w6, w7⟩
      · cases w
      · cases w
      · refine ⟨p, List.mem_of_getElem? hp, ?_⟩
        obtain ⟨e3, he3, hl3⟩ := isF_ln w5
        obtain ⟨q2, -, ⟨hw2, -, -⟩, -⟩ := h.2.2.2.2.2.2.2.2.2.2.1.l w4
        obtain ⟨T3, Ep3, b1, b2, b3, -⟩ := hw2.2.2.2.2.2 e3 he3
        have e4 : e3 = e := by omega
        rw [e4, a1] at b1; cases b1
        have w6 : pLf s = pLf r := w6
        rw [w6, a3] at b3
        have := Option.some.inj b3
        simp [w2, this]
theorem rn_can {C : KsS} {D : MdS} (h : Inv C D) {i : Nat} {r : PeS} {q : MpS} (hr : (zPs C)[i]? = some r) (hq : (dPs D)[i]? = some q) : (isF (zTs C).length (pEp r) = true ∧ pRn r = none) ↔ rnCanM D i q := by
  unfold rnCanM
  rw [h.isF hr hq]
  constructor
  · rintro ⟨h1, h2⟩
    exact ⟨h1, fun z => (rn_pr h hr h1).mp z h2⟩
  · rintro ⟨h1, h2⟩
    exact ⟨h1, Classical.not_not.mp fun z => h2 ((rn_pr h hr h1).mpr z)⟩
/-- a proposal more -/
theorem Inv.prop {C : KsS} {D : MdS} (h : Inv C D) {p : PrS} {m : MrS} (hp : PrQ C D p m) (h1 : ∀ (j : Nat) (q : PrS), (zRs C)[j]? = some q → q.1 = 1 → p.1 = 1 → q.2.1 ≠ p.2.1) (h2 : ¬ p.1 = 2) (h3 : ∀ (j : Nat) (q : PrS) (a b : PkS), (zRs C)[j]? = some q → q.1 = 0 → p.1 = 0 → (zKs C)[q.2.1]? = some a → (zKs C)[p.2.1]? = some b → a.1 ≠ b.1) : Inv (zSs C, zBx C, zZz C, zPs C, zKs C, zRs C ++ [p], zTs C, zSt C, zMs C, zSo C, zBn C) (dSs D, dBx D, dKs D, dPs D, dRs D ++ [m], dEs D, dMs D, dSo D, 0, dZz D, dBn D, dCm D) := by
  obtain ⟨hS, hOk, hz, hbn, hcm, hB, hK, hR, hE, hSt, hP, hM, hSo, hSn, hPk, hPr, hRo, hCm⟩ := h
  refine ⟨hS, hOk, hz, hbn, hcm, hB, hK, hR.snoc hp, hE, hSt, hP.imp fun k r q _ _ z => ⟨z.1, fun e he => ?_, z.2.2⟩, hM, hSo, hSn, hPk, ⟨?_, ?_, ?_⟩, hRo, hCm⟩
  · obtain ⟨w1, w2⟩ := z.2.1 e he
    refine ⟨w1, fun hl x => ?_⟩
    rw [w2 hl x]
    show _ ↔ _ ∈ zRs C ++ [p]
    rw [List.mem_append, List.mem_singleton]
    exact ⟨Or.inl, fun y => y.elim id fun y => absurd (by rw [← y]) h2⟩
  · intro j k q z hjk hq hk a b
    rcases snoc_at hq with ⟨g1, hq9⟩ | ⟨g1, rfl⟩
    · rcases snoc_at hk with ⟨g2, hk⟩ | ⟨g2, rfl⟩
      · exact hPr.1 j k q z hjk hq9 hk a b
      · exact h1 j q hq9 a b
    · have := get_lt2 hk
      rw [List.length_append, List.length_singleton] at this
      omega
  · intro j k q z hjk hq hk a b
    rcases snoc_at hq with ⟨g1, hq⟩ | ⟨g1, rfl⟩
    · rcases snoc_at hk with ⟨g2, hk⟩ | ⟨g2, rfl⟩
      · exact hPr.2.1 j k q z hjk hq hk a b
      · exact absurd b h2
    · exact absurd a h2
  · intro j k q z x y hjk hq hk a b hx hy
    rcases snoc_at hq with ⟨g1, hq9⟩ | ⟨g1, rfl⟩
    · rcases snoc_at hk with ⟨g2, hk⟩ | ⟨g2, rfl⟩
      · exact hPr.2.2 j k q z x y hjk hq9 hk a b hx hy
      · exact h3 j q x y hq9 a b hx hy
    · have := get_lt2 hk
      rw [List.length_append, List.length_singleton] at this
      omega
theorem ad_y {C : KsS} {D : MdS} (h : Inv C D) {i j : Nat} {r r2 : PeS} {k : PkS} {T : TrS} (hT : zTs C ≠ [] → (zTs C)[(zTs C).length - 1]? = some T) (hr : (zPs C)[i]? = some r) (hk : (zKs C)[j]? = some k) (hr2 : (zPs C)[k.1]? = some r2) (hcan : adCan C T r k r2) : Inv (zSs C, zBx C, zZz C, zPs C, zKs C, zRs C ++ [(0, j, 0)], zTs C, zSt C, zMs C, zSo C, zBn C) (dSs D, dBx D, dKs D, dPs D, dRs D ++ [(97, i, j)], dEs D, dMs D, dSo D, 0, dZz D, dBn D, dCm D) := by
  obtain ⟨c1, c2, c3, c4, c5⟩ := hcan
  obtain ⟨e, he, hl⟩ := isF_ln c1
  have hne : zTs C ≠ [] := fun z => by rw [z] at hl; cases hl
  have hTl := hT hne
  have hI := h.tr T (List.mem_of_getElem? hTl)
  refine h.prop ⟨T, hTl, get_lt2 hr, Or.inl ⟨rfl, rfl, rfl, k, r2, hk, c2, hr2, c4, lof_no hI c3⟩⟩ (fun _ _ _ _ z => by cases z) (fun z => by cases z) fun n q a b hq hq0 _ ha hb z => c5 ?_
  rw [hk] at hb; cases hb
  unfold adB
  rw [List.any_eq_true]
  refine ⟨q, List.mem_of_getElem? hq, ?_⟩
  unfold adP
  rw [ha]
  simp [hq0, z]
theorem rm_y {C : KsS} {D : MdS} (h : Inv C D) {i j : Nat} {r : PeS} {T : TrS} (hT : (zTs C)[(zTs C).length - 1]? = some T) (hr : (zPs C)[i]? = some r) (hcan : rmCan C T r j) : Inv (zSs C, zBx C, zZz C, zPs C, zKs C, zRs C ++ [(1, j, 0)], zTs C, zSt C, zMs C, zSo C, zBn C) (dSs D, dBx D, dKs D, dPs D, dRs D ++ [(114, i, j)], dEs D, dMs D, dSo D, 0, dZz D, dBn D, dCm D) := by
  obtain ⟨c1, c2, c3⟩ := hcan
  cases e : T.2.2.2 j with
  | none => exact absurd e c2
  | some p =>
  refine h.prop ⟨T, hT, get_lt2 hr, Or.inr (Or.inl ⟨rfl, rfl, rfl, p, e⟩)⟩ (fun n q hq hq0 _ z => c3 ?_) (fun z => by cases z) fun _ _ _ _ _ _ z => by cases z
  unfold rmB
  rw [List.any_eq_true]
  exact ⟨q, List.mem_of_getElem? hq, by simp [hq0, z]⟩
/-- a renewal more -/
theorem rn_y {C : KsS} {D : MdS} (h : Inv C D) {i f g : Nat} {r : PeS} {q : MpS} (hr : (zPs C)[i]? = some r) (hq : (dPs D)[i]? = some q) (hcan : isF (zTs C).length (pEp r) = true ∧ pRn r = none) (hfg : Nq (zSs C) (dSs D) f g) : NtB (dKs D) (dEs D) ((dPs D).set i ((mEp q, mLf q, mLs q, some g, mNd q, mCh q, mEv q) : MpS)) (dSs D).length (dMs D).length ∧ ∀ (E : Nat → Bool) (Qs : List MpS), (∀ y, E y = true ↔ pEv r y = true ∨ helP (zKs C) ((pNo r, pEv r, pPk r, pEp r, pLf r, pNd r, pOn r, pKy r, pCh r, some f) : PeS) y) → NtR (dKs D) (dEs D) ((dPs D).set i ((mEp q, mLf q, mLs q, some g, mNd q, mCh q, mEv q) : MpS)) Qs ((dPs D).set i ((mEp q, mLf q, mLs q, some g, mNd q, mCh q, mEv q) : MpS)).length → Inv (zSs C, zBx C, zZz C, (zPs C).set i ((pNo r, E, pPk r, pEp r, pLf r, pNd r, pOn r, pKy r, pCh r, some f) : PeS), zKs C, zRs C ++ [(2, pLf r, f)], zTs C, zSt C, zMs C, zSo C, zBn C) (dSs D, dBx D, dKs D, Qs, dRs D ++ [(110, i, g)], dEs D, dMs D, dSo D, 0, dZz D, dBn D, dCm D) := by
  obtain ⟨c1, c2⟩ := hcan
  obtain ⟨e, he, hel⟩ := isF_ln c1
  have hps1 := fun (E : Nat → Bool) (hw : PeW (zSs C) (dSs D) (zTs C) (dEs D) (dKs D) i ((pNo r, E, pPk r, pEp r, pLf r, pNd r, pOn r, pKy r, pCh r, some f) : PeS) ((mEp q, mLf q, mLs q, some g, mNd q, mCh q, mEv q) : MpS)) hev => h.ps1 hw hev
  have hntb := fun (E : Nat → Bool) (hw : PeW (zSs C) (dSs D) (zTs C) (dEs D) (dKs D) i ((pNo r, E, pPk r, pEp r, pLf r, pNd r, pOn r, pKy r, pCh r, some f) : PeS) ((mEp q, mLf q, mLs q, some g, mNd q, mCh q, mEv q) : MpS)) hev hch => h.ntb hw hev hch
  have htr := h.tr
  obtain ⟨hS, hOk, hz, hbn, hcm, hB, hK, hR, hE, hSt, hP, hM, hSo, hSn, hPk, hPr, hRo, hCm⟩ := h
  obtain ⟨⟨hw, hev, hnd⟩, hrn, hch, hhe⟩ := hP.2 i r q hr hq
  have hil : i < (zPs C).length := get_lt2 hr
  obtain ⟨T, Ep, a1, a2, a3, a4⟩ := hw.2.2.2.2.2 e he
  have hTI := htr T (List.mem_of_getElem? a1)
  have hnr := (hrn e he).2 hel
  have hwn : ∀ E, PeW (zSs C) (dSs D) (zTs C) (dEs D) (dKs D) i ((pNo r, E, pPk r, pEp r, pLf r, pNd r, pOn r, pKy r, pCh r, some f) : PeS) ((mEp q, mLf q, mLs q, some g, mNd q, mCh q, mEv q) : MpS) := by
    intro E
    obtain ⟨hw1, hw2, hw3, hw4, hw5, hw6⟩ := hw
    exact ⟨hw1, hw2, Or.inr ⟨f, g, rfl, rfl, hfg⟩, hw4, fun z => (by have z : pEp r = none := z; rw [he] at z; cases z), hw6⟩
  have hevn : ∀ E : Nat → Bool, (∀ y, E y = true ↔ pEv r y = true ∨ helP (zKs C) ((pNo r, pEv r, pPk r, pEp r, pLf r, pNd r, pOn r, pKy r, pCh r, some f) : PeS) y) → evOk (zSs C) (dSs D) (zKs C) ((pNo r, E, pPk r, pEp r, pLf r, pNd r, pOn r, pKy r, pCh r, some f) : PeS) ((mEp q, mLf q, mLs q, some g, mNd q, mCh q, mEv q) : MpS) := fun E hE => ⟨hnd, _, hev, hE⟩
  refine ⟨?_, fun E Qs hEv hN => ?_⟩
  · obtain ⟨E, hE⟩ := cl_bool fun y => pEv r y = true ∨ helP (zKs C) ((pNo r, pEv r, pPk r, pEp r, pLf r, pNd r, pOn r, pKy r, pCh r, some f) : PeS) y
    exact hntb E (hwn E) (hevn E hE) hch
  have hps2 := nt_q hK htr hN (hps1 E (hwn E) (hevn E hEv))
  have hper : ∀ (j : Nat) (s : PeS), (zPs C)[j]? = some s → ∃ s2, ((zPs C).set i ((pNo r, E, pPk r, pEp r, pLf r, pNd r, pOn r, pKy r, pCh r, some f) : PeS))[j]? = some s2 ∧ pEp s2 = pEp s ∧ pLf s2 = pLf s ∧ (j ≠ i → s2 = s) := by
    intro j s hs
    refine ⟨_, set_at2 hs, ?_⟩
    by_cases e : j = i
    · rw [if_pos e]
      rw [e, hr] at hs; cases hs
      exact ⟨rfl, rfl, fun z => absurd e z⟩
    · rw [if_neg e]; exact ⟨rfl, rfl, fun _ => rfl⟩
  have hno : ∀ (k : Nat) (x : PrS), (zRs C)[k]? = some x → x.1 = 2 → x.2.1 ≠ pLf r := by
    intro k x hx h2 h3
    have hm : x ∈ zRs C := List.mem_of_getElem? hx
    have : x = (2, pLf r, x.2.2) := by rw [← h2, ← h3]
    rw [this] at hm
    have := (hnr _).mpr hm
    rw [c2] at this; cases this
  refine ⟨hS, hOk, hz, hbn, hcm, hB, hK, LQ.snoc (hR.imp fun k p m hp hm z => ?_) ?_, ?_, hSt, ?_, hM, hSo, hSn, ?_, ?_, hRo, ?_⟩
  · obtain ⟨T, z1, z2, z3⟩ := z
    refine ⟨T, z1, by show _ < ((zPs C).set i _).length; rw [List.length_set]; exact z2, ?_⟩
    rcases z3 with ⟨w1, w2, w3, k, s, w4, w5, w6, w7, w8⟩ | w | ⟨w1, w2, w3, s, w4, w5, w6, w7⟩
    · obtain ⟨s2, v1, v2, v3, v4⟩ := hper _ s w6
      exact Or.inl ⟨w1, w2, w3, k, s2, w4, w5, v1, by rw [v2]; exact w7, w8⟩
    · exact Or.inr (Or.inl w)
    · obtain ⟨s2, v1, v2, v3, v4⟩ := hper _ s w4
      have e2 : m.2.1 ≠ i := by
        intro e2
        rw [e2, hr] at w4; cases w4
        rw [c2] at w7; cases w7
      rw [v4 e2] at v1
      exact Or.inr (Or.inr ⟨w1, w2, w3, s, v1, w5, w6, w7⟩)
  · refine ⟨T, by show (zTs C)[(zTs C).length - 1]? = _; rw [← hel]; exact a1, by show _ < ((zPs C).set i _).length; rw [List.length_set]; exact hil, Or.inr (Or.inr ⟨rfl, rfl, hfg, _, set_at2 hr, ?_⟩)⟩
    rw [if_pos rfl]
    exact ⟨c1, rfl, rfl⟩
  · exact hE.imp fun k T E2 hT _ z => EpQ.up (C := C) (D := D) (C2 := (zSs C, zBx C, zZz C, (zPs C).set i ((pNo r, E, pPk r, pEp r, pLf r, pNd r, pOn r, pKy r, pCh r, some f) : PeS), zKs C, zRs C ++ [(2, pLf r, f)], zTs C, zSt C, zMs C, zSo C, zBn C)) (D2 := (dSs D, dBx D, dKs D, Qs, dRs D ++ [(110, i, g)], dEs D, dMs D, dSo D, 0, dZz D, dBn D, dCm D)) Pf.rfl Pf.rfl (app_nil _) (app_nil _) (app_nil _) (app_nil _) (by show _ ≤ ((zPs C).set i _).length; rw [List.length_set]; exact Nat.le_refl _) hSt hE.1.symm hT z
  · refine hps2.imp fun k s m hs hm z => ?_
    rcases set_cases hs with ⟨rfl, rfl⟩ | ⟨y, hs2⟩
    · refine ⟨z.1, fun e2 h2 => ⟨fun n T1 T2 hn hT1 hT2 _ => ?_, fun _ x => ?_⟩, hch, z.2⟩
      · have h2 : pEp r = some e2 := h2
        rw [he] at h2; cases h2
        have := get_lt2 hT2
        have h9 : n + 1 < (zTs C).length := this
        omega
      · show some f = some x ↔ _ ∈ zRs C ++ [(2, pLf r, f)]
        rw [List.mem_append, List.mem_singleton, ← hnr x, c2]
        constructor
        · intro y; cases y; exact Or.inr rfl
        · rintro (y | y)
          · cases y
          · cases y; rfl
    · obtain ⟨m2, -, ⟨hw2, -, -⟩, w1, w2, -⟩ := hP.l hs2
      refine ⟨z.1, fun e2 h2 => ⟨(w1 e2 h2).1, fun hl x => ?_⟩, w2, z.2⟩
      rw [(w1 e2 h2).2 hl x]
      show _ ↔ _ ∈ zRs C ++ [(2, pLf r, f)]
      rw [List.mem_append, List.mem_singleton]
      refine ⟨Or.inl, fun z => z.elim id fun z => ?_⟩
      exfalso
      obtain ⟨T3, Ep3, b1, b2, b3, -⟩ := hw2.2.2.2.2.2 e2 h2
      have e4 : e2 = e := by have hl : e2 + 1 = (zTs C).length := hl; omega
      rw [e4, a1] at b1; cases b1
      have e5 : pLf s = pLf r := by injection z with z1 z2; injection z2
      rw [e5, a3] at b3
      exact y (Option.some.inj b3).symm
  · refine ⟨hPk.1, fun k p hp ho => ?_, hPk.2.2.1, fun p hp => by show _ < ((zPs C).set i _).length; rw [List.length_set]; exact hPk.2.2.2 p hp⟩
    obtain ⟨e3, E3, l, s, z1, z2, z3, z4, z5, z6⟩ := hPk.2.1 k p hp ho
    obtain ⟨s2, v1, v2, v3, v4⟩ := hper _ s z4
    exact ⟨e3, E3, l, s2, z1, z2, z3, v1, by rw [v2]; exact z5, z6⟩
  · refine ⟨?_, ?_, ?_⟩
    · intro j k q z hjk hq hk a b
      rcases snoc_at hq with ⟨g1, hq⟩ | ⟨g1, rfl⟩
      · rcases snoc_at hk with ⟨g2, hk⟩ | ⟨g2, rfl⟩
        · exact hPr.1 j k q z hjk hq hk a b
        · cases b
      · cases a
    · intro j k q z hjk hq hk a b
      rcases snoc_at hq with ⟨g1, hq⟩ | ⟨g1, rfl⟩
      · rcases snoc_at hk with ⟨g2, hk⟩ | ⟨g2, rfl⟩
        · exact hPr.2.1 j k q z hjk hq hk a b
        · exact hno j q hq a
      · have := get_lt2 hk
        have h9 : k < (zRs C ++ [(2, pLf r, f)]).length := this
        rw [List.length_append, List.length_singleton] at h9
        omega
    · intro j k q z x y hjk hq hk a b hx hy
      rcases snoc_at hq with ⟨g1, hq⟩ | ⟨g1, rfl⟩
      · rcases snoc_at hk with ⟨g2, hk⟩ | ⟨g2, rfl⟩
        · exact hPr.2.2 j k q z x y hjk hq hk a b hx hy
        · cases b
      · cases a
  · intro j s k st T hs hst hT hc
    rcases set_cases hs with ⟨rfl, rfl⟩ | ⟨y, hs2⟩
    · exact hCm j r k st T hr hst hT hc
    · exact hCm j s k st T hs2 hst hT hc
