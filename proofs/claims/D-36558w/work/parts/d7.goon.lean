set_option maxRecDepth 100000
/-! ===== going on: both sides ===== -/
theorem Nq.of {ss tt : List Sec} {i j : Nat} {n : Nm} (h : At ss i n) (h2 : At tt j n) : Nq ss tt i j := ⟨n, h, h2⟩
theorem nab_eq {a b k : Nat} (h : a / 2 ^ k = b / 2 ^ k) : nab a k = nab b k := by unfold nab; rw [h]
/-- what holds of a member that is behind -/
theorem go_st {C : KsS} {D : MdS} (h : Inv C D) {i e : Nat} {r : PeS} {q : MpS} {T : TrS} (hr : (zPs C)[i]? = some r) (hq : (dPs D)[i]? = some q) (he : pEp r = some e) (hT : (zTs C)[e + 1]? = some T) : ∃ T0 Ep0 Ep s x x0, (zTs C)[e]? = some T0 ∧ (dEs D)[e]? = some Ep0 ∧ (dEs D)[e + 1]? = some Ep ∧ (zSt C)[e + 1]? = some s ∧ PeI (zSs C) (dSs D) (zTs C) (dEs D) i r q e ∧ T0.2.2.2 (pLf r) = some i ∧ TrI T0 ∧ EpQ C D (e + 1) T Ep ∧ EpS (zSs C) (dSs D) T s Ep x ∧ At (zSs C) (pOn r) (n1 x0 5) ∧ StP (zSs C) x0 T s x ∧ StB (zSs C) (zBx C) T s Ep ∧ StE T0 T s Ep := by
  obtain ⟨hS, hOk, hz, hbn, hcm, hB, hK, hR, hE, hSt, hP, hM, hSo, hSn, hPk, hPr, hRo, hCm⟩ := h
  obtain ⟨⟨hw, -, -⟩, -⟩ := hP.2 i r q hr hq
  have hpi := hw.2.2.2.2.2 e he
  obtain ⟨T0, Ep0, a1, a2, a3, a4, a5, a6, a7, a8, a9, b1, b2, b3⟩ := id hpi
  obtain ⟨Ep, hEp, hQ⟩ := hE.l hT
  have hQ0 := hE.2 e T0 Ep0 a1 a2
  obtain ⟨-, ⟨hI, -⟩, -, s, x, hs, hES, hst⟩ := id hQ
  obtain ⟨-, ⟨hI0, -⟩, -, s0, y0, hs0, hES0, -⟩ := hQ0
  obtain ⟨x0, g1, g2, g3, g4⟩ := hst e T0 s0 Ep0 rfl a1 hs0 a2
  have e0 : x0 = y0 := g1.fn hES0.1
  obtain ⟨n, n1_, n2_⟩ := a9
  have e1 : n = n1 x0 5 := by rw [e0]; exact n2_.fn hES0.2.1
  rw [e1] at n1_
  exact ⟨T0, Ep0, Ep, s, x, x0, a1, a2, hEp, hs, hpi, a3, hI0, hQ, hES, n1_, g2, g3, g4⟩
theorem cl_bool (P : Nat → Prop) : ∃ E : Nat → Bool, ∀ x, E x = true ↔ P x := ⟨fun x => @decide (P x) (Classical.propDecidable _), fun x => by simp⟩
/-- who joins or goes on notes nothing of its leaf in the newest tree, if this is not the newest -/
theorem rn_no {C : KsS} {D : MdS} (h : Inv C D) {i l : Nat} {r : PeS} (hr : (zPs C)[i]? = some r) (hf : ¬ isF (zTs C).length (pEp r) = true) {T : TrS} (hT : (zTs C)[(zTs C).length - 1]? = some T) (hl : T.2.2.2 l = some i) (x : Nat) : (2, l, x) ∉ zRs C := by
  have htr := h.tr
  obtain ⟨hS, hOk, hz, hbn, hcm, hB, hK, hR, hE, hSt, hP, hM, hSo, hSn, hPk, hPr, hRo, hCm⟩ := h
  intro hm
  obtain ⟨k, hk⟩ := List.getElem?_of_mem hm
  obtain ⟨p, hp, T2, hT2, hpl, w⟩ := hR.l hk
  rw [hT] at hT2; cases hT2
  rcases w with ⟨w, -⟩ | ⟨w, -⟩ | ⟨-, -, -, s, w4, w5, w6, w7⟩
  · cases w
  · cases w
  · obtain ⟨q, hq, ⟨hw, -, -⟩, -⟩ := hP.l w4
    cases e2 : pEp s with
    | none => rw [e2] at w5; exact absurd w5 isF_n
    | some ep =>
      obtain ⟨T0, Ep0, a1, a2, a3, a⟩ := hw.2.2.2.2.2 ep e2
      have e3 : ep = (zTs C).length - 1 := by
        rw [e2] at w5; unfold isF at w5; simp at w5; omega
      rw [e3, hT] at a1; cases a1
      have w6 : pLf s = l := w6
      rw [w6, hl] at a3
      have e4 := Option.some.inj a3
      rw [← e4, hr] at w4
      have e5 := Option.some.inj w4
      rw [← e5] at w5
      exact hf w5
/-- a member that is removed -/
theorem go_o {C : KsS} {D : MdS} (h : Inv C D) {i e : Nat} {r : PeS} {q : MpS} {T : TrS} (hr : (zPs C)[i]? = some r) (hq : (dPs D)[i]? = some q) (he : pEp r = some e) (hT : (zTs C)[e + 1]? = some T) (hlo : lof T i = none) : ∃ Ep, (dEs D)[e + 1]? = some Ep ∧ mEp q = some e ∧ eRm Ep (mLf q) = true ∧ Inv (zSs C, zBx C, zZz C, (zPs C).set i ((r.1, r.2.1, r.2.2.1, none, r.2.2.2.2.1, fun _ => none, pOn r, pKy r, fun _ => none, none) : PeS), zKs C, zRs C, zTs C, zSt C, zMs C, zSo C, zBn C) (dSs D, dBx D, dKs D, (dPs D).set i ((none, mLf q, mLs q, none, fun _ => none, fun _ => none, mEv q) : MpS), dRs D, dEs D, dMs D, dSo D, 0, dZz D, dBn D, dCm D) := by
  obtain ⟨T0, Ep0, Ep, s, x, x0, z1, z2, hEp, hs, hpi, hi0, hI0, hQ, hES, hon, hsP, hsB, hsE⟩ := go_st h hr hq he hT
  have hlt : e + 1 < (zTs C).length := get_lt2 hT
  obtain ⟨⟨hw, hev, hnd⟩, hrn, hch, hhe⟩ := h.2.2.2.2.2.2.2.2.2.2.1.2 i r q hr hq
  refine ⟨Ep, hEp, by rw [hw.2.1]; exact he, ?_, ?_⟩
  · obtain ⟨T1, E1, -, -, -, a4, -⟩ := hpi
    rw [a4]
    cases e1 : eRm Ep (pLf r) with
    | true => rfl
    | false => exact absurd (hsE.2.2.2.2.2.2.1 (pLf r) i hi0 (by rw [e1]; simp)) (lof_no hQ.2.1.1 hlo _)
  · refine h.set0 hr ⟨hw.1, rfl, Or.inl ⟨rfl, rfl⟩, hw.2.2.2.1, fun _ => ⟨fun _ => rfl, fun _ => rfl, fun _ => rfl, fun _ => rfl, rfl⟩, fun e z => by cases z⟩ hev hnd (fun x hx => ?_) (fun e z => by cases z) (fun l c z => by cases z) (fun _ _ _ _ => rfl) (fun _ _ _ _ _ _ _ => rfl) (fun z => ?_) (fun e z => by cases z)
    · rcases hx with hx | ⟨n, hn⟩ | ⟨hx, -⟩ | hx
      · exact hhe x (Or.inl hx)
      · cases hn
      · exact absurd rfl hx
      · cases hx
    · rw [he] at z; exact absurd z (isF_some hlt)
