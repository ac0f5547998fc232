set_option maxRecDepth 100000
/-! ===== secrets and boxes grow ===== -/
theorem Inv.sec {C : KsS} {D : MdS} (h : Inv C D) {s2 t2 : List Sec} {b c : List (Nat × Nat)} {z z2 : Int32} {n n2 th : Nat} (hz2 : z = z2) (hn2 : n = n2) (h1 : Pf (zSs C) s2) (h2 : Pf (dSs D) t2) (hS2 : SqS s2 t2) (hOk2 : SsOk t2) (hB2 : Bq s2 t2 (zBx C ++ b) (dBx D ++ c)) : Inv (s2, zBx C ++ b, z, zPs C, zKs C, zRs C, zTs C, zSt C, zMs C, zSo C, n) (t2, dBx D ++ c, dKs D, dPs D, dRs D, dEs D, dMs D, dSo D, th, z2, n2, dCm D) := by
  subst hz2 hn2
  obtain ⟨hS, hOk, hz, hbn, hcm, hB, hK, hR, hE, hSt, hP, hM, hSo, hSn, hPk, hPr, hRo, hCm⟩ := h
  refine ⟨hS2, hOk2, rfl, rfl, hcm, hB2, hK.imp fun k q p _ _ w => w.up h1 h2, hR.imp fun k p m _ _ w => ?_, hE.imp fun k T E hT _ w => ?_, hSt, hP.imp fun k r q _ _ w => ⟨w.1.up h1 h2, w.2.1, w.2.2.1, w.2.2.2⟩, hM.imp fun k m p _ _ w => ⟨w.1, w.2.1, w.2.2.1, w.2.2.2.1.up h1 h2, w.2.2.2.2⟩, hSo.up h1 h2, hSn, hPk, hPr, hRo, hCm⟩
  · obtain ⟨T, z1, z2, z3⟩ := w
    refine ⟨T, z1, z2, ?_⟩
    rcases z3 with w | w | ⟨w1, w2, w3, w4⟩
    · exact Or.inl w
    · exact Or.inr (Or.inl w)
    · exact Or.inr (Or.inr ⟨w1, w2, w3.up h1 h2, w4⟩)
  · exact EpQ.up (C := C) (D := D) (C2 := (s2, zBx C ++ b, z, zPs C, zKs C, zRs C, zTs C, zSt C, zMs C, zSo C, n)) (D2 := (t2, dBx D ++ c, dKs D, dPs D, dRs D, dEs D, dMs D, dSo D, th, z, n, dCm D)) h1 h2 rfl (app_nil _) (app_nil _) (app_nil _) (Nat.le_refl _) hSt hE.1.symm hT w
theorem Inv.th {C : KsS} {D : MdS} (h : Inv C D) (th : Nat) : Inv C (dT D th) := h
theorem Inv.seed {C : KsS} {D : MdS} (h : Inv C D) (v : Int32) : Inv (zSs C, zBx C, v, C.2.2.2) (dSs D, dBx D, dKs D, dPs D, dRs D, dEs D, dMs D, dSo D, 0, v, dBn D, dCm D) := by
  obtain ⟨hS, hOk, hz, hbn, hcm, hB, hK, hR, hE, hSt, hP, hM, hSo, hSn, hPk, hPr, hRo, hCm⟩ := h
  exact ⟨hS, hOk, rfl, hbn, hcm, hB, hK, hR, hE, hSt, hP, hM, hSo, hSn, hPk, hPr, hRo, hCm⟩
/-- a person more -/
theorem Inv.person {C : KsS} {D : MdS} (h : Inv C D) : Inv (zSs C, zBx C, zZz C, (zPs C ++ [(((zPs C).length, fun _ => false, [], none, 0, fun _ => none, 0, 0, fun _ => none, none) : PeS)]), zKs C, zRs C, zTs C, zSt C, zMs C, zSo C, zBn C) (dSs D, dBx D, dKs D, dPs D ++ [((none, 0, 0, none, fun _ => none, fun _ => none, []) : MpS)], dRs D, dEs D, dMs D, dSo D, 0, dZz D, dBn D, dCm D) := by
  obtain ⟨hS, hOk, hz, hbn, hcm, hB, hK, hR, hE, hSt, hP, hM, hSo, hSn, hPk, hPr, hRo, hCm⟩ := h
  refine ⟨hS, hOk, hz, hbn, hcm, hB, hK, ?_, ?_, hSt, ?_, hM, hSo, hSn, ?_, hPr, hRo, ?_⟩
  · refine hR.imp fun k p m hp hm z => ?_
    obtain ⟨T, z1, z2, z3⟩ := z
    refine ⟨T, z1, by show _ < (zPs C ++ [_]).length; rw [List.length_append]; exact Nat.lt_of_lt_of_le z2 (Nat.le_add_right _ _), ?_⟩
    rcases z3 with ⟨w1, w2, w3, k, s, w4, w5, w6, w7, w8⟩ | w | ⟨w1, w2, w3, s, w4, w5, w6, w7⟩
    · exact Or.inl ⟨w1, w2, w3, k, s, w4, w5, get_app w6, w7, w8⟩
    · exact Or.inr (Or.inl w)
    · exact Or.inr (Or.inr ⟨w1, w2, w3, s, get_app w4, w5, w6, w7⟩)
  · exact hE.imp fun k T E hT _ z => EpQ.up (C := C) (D := D) (C2 := (zSs C, zBx C, zZz C, (zPs C ++ [(((zPs C).length, fun _ => false, [], none, 0, fun _ => none, 0, 0, fun _ => none, none) : PeS)]), zKs C, zRs C, zTs C, zSt C, zMs C, zSo C, zBn C)) (D2 := (dSs D, dBx D, dKs D, dPs D ++ [((none, 0, 0, none, fun _ => none, fun _ => none, []) : MpS)], dRs D, dEs D, dMs D, dSo D, 0, dZz D, dBn D, dCm D)) Pf.rfl Pf.rfl (app_nil _) (app_nil _) (app_nil _) (app_nil _) (by show _ ≤ (zPs C ++ [_]).length; rw [List.length_append]; exact Nat.le_add_right _ _) hSt hE.1.symm hT z
  · refine hP.snoc ⟨⟨⟨rfl, rfl, Or.inl ⟨rfl, rfl⟩, ?_, fun _ => ⟨fun _ => rfl, fun _ => rfl, fun _ => rfl, fun _ => rfl, rfl⟩, fun e z => by cases z⟩, Sq.no (fun i z => Bool.noConfusion z) (fun j z => by cases z), List.nodup_nil⟩, (fun e z => by cases z), (fun l c z => by cases z), fun x hx => ?_⟩
    · show [] = pksM (dKs D) (zPs C).length
      cases e : pksM (dKs D) (zPs C).length with
      | nil => rfl
      | cons k ks =>
        have hm : k ∈ pksM (dKs D) (zPs C).length := by rw [e]; exact List.mem_cons_self
        obtain ⟨q, hq, h1, -⟩ := pksM_m.mp hm
        obtain ⟨p, hp, h2⟩ := hK.r hq
        have := hPk.2.2.2 p (List.mem_of_getElem? hp)
        rw [h2.1, h1] at this
        omega
    · rcases hx with ⟨k, hk, -⟩ | ⟨n, hn⟩ | ⟨hx, -⟩ | hx
      · cases hk
      · cases hn
      · exact absurd rfl hx
      · cases hx
  · refine ⟨hPk.1, fun k p hp ho => ?_, hPk.2.2.1, fun p hp => ?_⟩
    · obtain ⟨e, E, l, s, z1, z2, z3, z4, z5, z6⟩ := hPk.2.1 k p hp ho
      exact ⟨e, E, l, s, z1, z2, z3, get_app z4, z5, z6⟩
    · show _ < (zPs C ++ [_]).length
      rw [List.length_append]; exact Nat.lt_of_lt_of_le (hPk.2.2.2 p hp) (Nat.le_add_right _ _)
  · intro i r k s T hr hs hT hc
    rcases snoc_at hr with ⟨-, z⟩ | ⟨z1, z2⟩
    · exact hCm i r k s T z hs hT hc
    · refine ⟨(fun e z => by rw [z2] at z; cases z), fun j q a hq ho hi ha => ?_⟩
      have := hPk.2.2.2 q (List.mem_of_getElem? hq)
      omega
