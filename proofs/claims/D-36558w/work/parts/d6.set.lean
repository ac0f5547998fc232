set_option maxRecDepth 100000
/-! ===== the relation, when something of it changes ===== -/
theorem mem_ex (ss : List Sec) {s2 : List Sec} (h : Pf ss s2) {n : Nm} (hn : n ∈ nms ss) : n ∈ nms s2 := by
  obtain ⟨i, hi⟩ := At.ex hn
  exact (h.at hi).mem
theorem EpS.up {ss tt s2 t2 : List Sec} (h1 : Pf ss s2) (h2 : Pf tt t2) {T : TrS} {s : StS} {E : MeS} {x : Nm} (h : EpS ss tt T s E x) : EpS s2 t2 T s E x :=
  ⟨h1.at h.1, h2.at h.2.1, h2.at h.2.2.1, h.2.2.2.1, fun l hl => by obtain ⟨c, a, b⟩ := h.2.2.2.2 l hl; exact ⟨c, a, h2.at b⟩⟩
theorem StP.up {ss s2 : List Sec} (h1 : Pf ss s2) {x0 x : Nm} {T : TrS} {s : StS} (h : StP ss x0 T s x) : StP s2 x0 T s x := by
  obtain ⟨y, b, bf, a1, a2, a3, a4, a5⟩ := h
  exact ⟨y, b, bf, fun m z hm hz => h1.at (a1 m z hm hz), mem_ex ss h1 a2, a3, h1.at a4, a5⟩
theorem get_app {α : Type} {xs t : List α} {k : Nat} {x : α} (h : xs[k]? = some x) : (xs ++ t)[k]? = some x := by rw [List.getElem?_append_left (get_lt2 h)]; exact h
theorem get_app2 {α : Type} {xs t : List α} {k : Nat} {x : α} (hk : k < xs.length) (h : (xs ++ t)[k]? = some x) : xs[k]? = some x := by rw [List.getElem?_append_left hk] at h; exact h
theorem StB.up {ss s2 : List Sec} (h1 : Pf ss s2) {bx b : List (Nat × Nat)} {T : TrS} {s : StS} {E : MeS} (h : StB ss bx T s E) : StB s2 (bx ++ b) T s E := by
  intro m hm
  obtain ⟨h2, h3⟩ := h m hm
  refine ⟨h2, fun y hy => ?_⟩
  obtain ⟨bg, en, a1, a2, a3, a4, a5, a6⟩ := h3 y hy
  refine ⟨bg, en, a1, a2, a3, by rw [List.length_append]; omega, fun j p hj hj2 hp => a5 j p hj hj2 (get_app2 (by omega) hp), fun l l1 l2 l3 l4 => ?_⟩
  obtain ⟨u, x, q, o, z, b1, b2, b3, b4, b5, b6, b7⟩ := a6 l l1 l2 l3 l4
  exact ⟨u, x, q, o, z, b1, b2, b3, b4, get_app b5, h1.at b6, h1.at b7⟩
theorem EpQ.up {C C2 : KsS} {D D2 : MdS} (h1 : Pf (zSs C) (zSs C2)) (h2 : Pf (dSs D) (dSs D2)) {b : List (Nat × Nat)} (hb : zBx C2 = zBx C ++ b) {ts : List TrS} (hT : zTs C2 = zTs C ++ ts) {st : List StS} (hS : zSt C2 = zSt C ++ st) {es : List MeS} (hE : dEs D2 = dEs D ++ es) (hp : (zPs C).length ≤ (zPs C2).length) (hl : (zSt C).length = (zTs C).length) (hl2 : (dEs D).length = (zTs C).length) {k : Nat} {T : TrS} {E : MeS} (hk : (zTs C)[k]? = some T) (h : EpQ C D k T E) : EpQ C2 D2 k T E := by
  obtain ⟨a1, ⟨a2, a2b⟩, a3, s, x, a4, a5, a6⟩ := h
  have hkl := get_lt2 hk
  refine ⟨a1, ⟨a2, fun l p hl => Nat.lt_of_lt_of_le (a2b l p hl) hp⟩, a3.up h1 h2, s, x, by rw [hS]; exact get_app a4, a5.up h1 h2, fun e T0 s0 E0 he hT0 hs0 hE0 => ?_⟩
  rw [hT] at hT0
  rw [hS] at hs0
  rw [hE] at hE0
  obtain ⟨x0, b1, b2, b3, b4⟩ := a6 e T0 s0 E0 he (get_app2 (by omega) hT0) (get_app2 (by omega) hs0) (get_app2 (by omega) hE0)
  exact ⟨x0, h1.at b1, b2.up h1, by rw [hb]; exact b3.up h1, b4⟩
theorem app_nil {α : Type} (xs : List α) : xs = xs ++ [] := (List.append_nil xs).symm
theorem set_at2 {α : Type} {xs : List α} {i k : Nat} {a x : α} (h : xs[k]? = some x) : (xs.set i a)[k]? = some (if k = i then a else x) := by
  rw [List.getElem?_set]
  by_cases e : i = k
  · rw [if_pos e, if_pos (by rw [e]; exact get_lt2 h), if_pos e.symm]
  · rw [if_neg e, if_neg (Ne.symm e)]; exact h
theorem Inv.tr {C : KsS} {D : MdS} (h : Inv C D) : ∀ T ∈ zTs C, TrI T := by
  intro T hT
  obtain ⟨k, hk⟩ := List.getElem?_of_mem hT
  obtain ⟨E, -, hE⟩ := h.2.2.2.2.2.2.2.2.1.l hk
  exact hE.2.1.1
/-- all persons but one stay as they were; what all have noted -/
theorem Inv.ps1 {C : KsS} {D : MdS} (h : Inv C D) {i : Nat} {r2 : PeS} {q2 : MpS} (hw : PeW (zSs C) (dSs D) (zTs C) (dEs D) (dKs D) i r2 q2) (hev : evOk (zSs C) (dSs D) (zKs C) r2 q2) : LQ (fun j r q => PeW (zSs C) (dSs D) (zTs C) (dEs D) (dKs D) j r q ∧ evOk (zSs C) (dSs D) (zKs C) r q) ((zPs C).set i r2) ((dPs D).set i q2) := by
  obtain ⟨hS, hOk, hz, hbn, hcm, hB, hK, hR, hE, hSt, hP, hM, hSo, hSn, hPk, hPr, hRo, hCm⟩ := h
  refine LQ.set (hP.imp fun k r q _ _ z => ?_) ⟨hw, hev⟩
  obtain ⟨⟨z1, z2, z3⟩, z4, z5, z6⟩ := z
  exact ⟨z1, evOk.old z2 z3 z6⟩
theorem Inv.ntb {C : KsS} {D : MdS} (h : Inv C D) {i : Nat} {r2 : PeS} {q2 : MpS} (hw : PeW (zSs C) (dSs D) (zTs C) (dEs D) (dKs D) i r2 q2) (hev : evOk (zSs C) (dSs D) (zKs C) r2 q2) (hch : ChL C r2) : NtB (dKs D) (dEs D) ((dPs D).set i q2) (dSs D).length (dMs D).length := by
  refine ntb_of h.2.2.2.2.2.2.1 h.tr (h.ps1 hw hev) ?_
  obtain ⟨hS, hOk, hz, hbn, hcm, hB, hK, hR, hE, hSt, hP, hM, hSo, hSn, hPk, hPr, hRo, hCm⟩ := h
  intro r hr l c hc
  rw [← hM.1]
  obtain ⟨k, hk⟩ := List.getElem?_of_mem hr
  rcases set_cases hk with ⟨-, rfl⟩ | ⟨-, z⟩
  · exact hch l c hc
  · obtain ⟨q, -, -, -, w, -⟩ := hP.l z
    exact w l c hc
theorem Inv.set1 {C : KsS} {D : MdS} (h : Inv C D) {i th : Nat} {r r2 : PeS} {Qs : List MpS} (hr : (zPs C)[i]? = some r) (hps : LQ (fun j r q => PeQ (zSs C) (dSs D) (zTs C) (dEs D) (dKs D) j r q ∧ ∀ x, helP (zKs C) r x → pEv r x = true) ((zPs C).set i r2) Qs) (hrn : RnQ C i r2) (hch : ChL C r2) (c1 : ∀ k ∈ zKs C, k.2.2.2.2.2 = true → k.1 = i → pEp r2 = none) (c2 : ∀ (j : Nat) (p : PrS) (k : PkS), (zRs C)[j]? = some p → p.1 = 0 → (zKs C)[p.2.1]? = some k → k.1 = i → pEp r2 = none) (c3 : isF (zTs C).length (pEp r) = true → pEp r2 = pEp r ∧ pLf r2 = pLf r ∧ pRn r2 = pRn r) (c4 : ∀ e, pEp r2 = some e → ∀ (k : Nat) (s : StS) (T : TrS), (zSt C)[k]? = some s → (zTs C)[k]? = some T → T.2.2.2 s.1 = some i → k ≤ e) : Inv (zSs C, zBx C, zZz C, (zPs C).set i r2, zKs C, zRs C, zTs C, zSt C, zMs C, zSo C, zBn C) (dSs D, dBx D, dKs D, Qs, dRs D, dEs D, dMs D, dSo D, th, dZz D, dBn D, dCm D) := by
  obtain ⟨hS, hOk, hz, hbn, hcm, hB, hK, hR, hE, hSt, hP, hM, hSo, hSn, hPk, hPr, hRo, hCm⟩ := h
  refine ⟨hS, hOk, hz, hbn, hcm, hB, hK, ?_, ?_, hSt, ?_, ?_, hSo, hSn, ?_, hPr, hRo, ?_⟩
  · refine hR.imp fun k p m hp hm z => ?_
    obtain ⟨T, z1, z2, z3⟩ := z
    refine ⟨T, z1, by show _ < ((zPs C).set i r2).length; rw [List.length_set]; exact z2, ?_⟩
    rcases z3 with ⟨w1, w2, w3, k, s, w4, w5, w6, w7, w8⟩ | w | ⟨w1, w2, w3, s, w4, w5, w6, w7⟩
    · refine Or.inl ⟨w1, w2, w3, k, _, w4, w5, set_at2 w6, ?_, w8⟩
      by_cases e : k.1 = i
      · rw [if_pos e]; exact c2 _ p k hp w1 w4 e
      · rw [if_neg e]; exact w7
    · exact Or.inr (Or.inl w)
    · refine Or.inr (Or.inr ⟨w1, w2, w3, _, set_at2 w4, ?_⟩)
      by_cases e : m.2.1 = i
      · rw [if_pos e]
        rw [e, hr] at w4
        have e2 := Option.some.inj w4
        rw [← e2] at w5 w6 w7
        obtain ⟨c5, c6, c7⟩ := c3 w5
        exact ⟨by rw [c5]; exact w5, by rw [c6]; exact w6, by rw [c7]; exact w7⟩
      · rw [if_neg e]; exact ⟨w5, w6, w7⟩
  · exact hE.imp fun k T E hT _ z => EpQ.up (C := C) (D := D) (C2 := (zSs C, zBx C, zZz C, (zPs C).set i r2, zKs C, zRs C, zTs C, zSt C, zMs C, zSo C, zBn C)) (D2 := (dSs D, dBx D, dKs D, Qs, dRs D, dEs D, dMs D, dSo D, th, dZz D, dBn D, dCm D)) Pf.rfl Pf.rfl (app_nil _) (app_nil _) (app_nil _) (app_nil _) (by show _ ≤ ((zPs C).set i r2).length; rw [List.length_set]; exact Nat.le_refl _) hSt hE.1.symm hT z
  · refine hps.imp fun k s m hs hm z => ?_
    rcases set_cases hs with ⟨rfl, rfl⟩ | ⟨y, hs2⟩
    · exact ⟨z.1, hrn, hch, z.2⟩
    · obtain ⟨m2, -, -, w1, w2, -⟩ := hP.l hs2
      exact ⟨z.1, w1, w2, z.2⟩
  · exact hM
  · refine ⟨hPk.1, fun k p hp ho => ?_, hPk.2.2.1, fun p hp => by show _ < ((zPs C).set i r2).length; rw [List.length_set]; exact hPk.2.2.2 p hp⟩
    obtain ⟨e, E, l, s, z1, z2, z3, z4, z5, z6⟩ := hPk.2.1 k p hp ho
    refine ⟨e, E, l, _, z1, z2, z3, set_at2 z4, ?_, z6⟩
    by_cases y : p.1 = i
    · rw [if_pos y]; exact c1 p (List.mem_of_getElem? hp) ho y
    · rw [if_neg y]; exact z5
  · intro j s k st T hs hst hT hc
    rcases set_cases hs with ⟨rfl, rfl⟩ | ⟨y, hs2⟩
    · exact ⟨fun e he => c4 e he k st T hst hT hc, (hCm j r k st T hr hst hT hc).2⟩
    · exact hCm j s k st T hs2 hst hT hc
theorem Inv.set {C : KsS} {D : MdS} (h : Inv C D) {i th : Nat} {r r2 : PeS} {q2 : MpS} {Qs : List MpS} (hr : (zPs C)[i]? = some r) (hw : PeW (zSs C) (dSs D) (zTs C) (dEs D) (dKs D) i r2 q2) (hev : evOk (zSs C) (dSs D) (zKs C) r2 q2) (hrn : RnQ C i r2) (hch : ChL C r2) (c1 : ∀ k ∈ zKs C, k.2.2.2.2.2 = true → k.1 = i → pEp r2 = none) (c2 : ∀ (j : Nat) (p : PrS) (k : PkS), (zRs C)[j]? = some p → p.1 = 0 → (zKs C)[p.2.1]? = some k → k.1 = i → pEp r2 = none) (c3 : isF (zTs C).length (pEp r) = true → pEp r2 = pEp r ∧ pLf r2 = pLf r ∧ pRn r2 = pRn r) (c4 : ∀ e, pEp r2 = some e → ∀ (k : Nat) (s : StS) (T : TrS), (zSt C)[k]? = some s → (zTs C)[k]? = some T → T.2.2.2 s.1 = some i → k ≤ e) (hN : NtR (dKs D) (dEs D) ((dPs D).set i q2) Qs ((dPs D).set i q2).length) : Inv (zSs C, zBx C, zZz C, (zPs C).set i r2, zKs C, zRs C, zTs C, zSt C, zMs C, zSo C, zBn C) (dSs D, dBx D, dKs D, Qs, dRs D, dEs D, dMs D, dSo D, th, dZz D, dBn D, dCm D) :=
  h.set1 hr (nt_q h.2.2.2.2.2.2.1 h.tr hN (h.ps1 hw hev)) hrn hch c1 c2 c3 c4
theorem Inv.set0 {C : KsS} {D : MdS} (h : Inv C D) {i th : Nat} {r r2 : PeS} {q2 : MpS} (hr : (zPs C)[i]? = some r) (hw : PeW (zSs C) (dSs D) (zTs C) (dEs D) (dKs D) i r2 q2) (hev : Sq (zSs C) (dSs D) (fun x => pEv r2 x = true) (fun y => y ∈ mEv q2)) (hnd : (mEv q2).Nodup) (hhe : HeE C r2) (hrn : RnQ C i r2) (hch : ChL C r2) (c1 : ∀ k ∈ zKs C, k.2.2.2.2.2 = true → k.1 = i → pEp r2 = none) (c2 : ∀ (j : Nat) (p : PrS) (k : PkS), (zRs C)[j]? = some p → p.1 = 0 → (zKs C)[p.2.1]? = some k → k.1 = i → pEp r2 = none) (c3 : isF (zTs C).length (pEp r) = true → pEp r2 = pEp r ∧ pLf r2 = pLf r ∧ pRn r2 = pRn r) (c4 : ∀ e, pEp r2 = some e → ∀ (k : Nat) (s : StS) (T : TrS), (zSt C)[k]? = some s → (zTs C)[k]? = some T → T.2.2.2 s.1 = some i → k ≤ e) : Inv (zSs C, zBx C, zZz C, (zPs C).set i r2, zKs C, zRs C, zTs C, zSt C, zMs C, zSo C, zBn C) (dSs D, dBx D, dKs D, (dPs D).set i q2, dRs D, dEs D, dMs D, dSo D, th, dZz D, dBn D, dCm D) := by
  refine h.set1 hr (LQ.set (h.2.2.2.2.2.2.2.2.2.2.1.imp fun k r q _ _ z => ⟨z.1, z.2.2.2⟩) ⟨⟨hw, hev, hnd⟩, hhe⟩) hrn hch c1 c2 c3 c4
