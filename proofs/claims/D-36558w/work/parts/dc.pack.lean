set_option maxRecDepth 100000
/-! ===== a package more ===== -/
theorem SqS.drw2 {ss tt : List Sec} (h : SqS ss tt) (z : Int32) : SqS (ss ++ [drw z]) (tt ++ [drw z]) ∧ Nq (ss ++ [drw z]) (tt ++ [drw z]) ss.length tt.length := by
  obtain ⟨h1, h2, h3, h4⟩ := h
  obtain ⟨a1, a2, a3, a4, a5⟩ := drw_1 (s := drw z) h1 rfl
  obtain ⟨b1, b2, b3, b4, b5⟩ := drw_1 (s := drw z) h2 rfl
  refine ⟨⟨a1, b1, by rw [a5, b5, h3], fun n => ?_⟩, _, a3, by rw [h3]; exact b3⟩
  rw [a4, b4, h4, h3]
theorem SsOk.drw2 {tt : List Sec} (h : SsOk tt) (z : Int32) : SsOk (tt ++ [drw z]) := SsOk.draw h _
theorem pksM_app {Ks : List MkS} {q : MkS} (h : ¬ q.2.2.2.2 = true) (i : Nat) : pksM (Ks ++ [q]) i = if q.1 = i then pksM Ks i ++ [Ks.length] else pksM Ks i := by
  unfold pksM
  rw [List.length_append, List.length_singleton, List.range_succ, List.filter_append]
  have e1 : (List.range Ks.length).filter (fun k => match (Ks ++ [q])[k]? with
    | none => false
    | some q => q.1 == i && !q.2.2.2.2) = (List.range Ks.length).filter (fun k => match Ks[k]? with
    | none => false
    | some q => q.1 == i && !q.2.2.2.2) := by
    refine List.filter_congr fun k hk => ?_
    rw [List.getElem?_append_left (List.mem_range.mp hk)]
  rw [e1]
  have e2 : (Ks ++ [q])[Ks.length]? = some q := by rw [List.getElem?_append_right (Nat.le_refl _), Nat.sub_self]; rfl
  by_cases e : q.1 = i
  · rw [if_pos e, List.filter_cons_of_pos (by rw [e2]; simp [e, h]), List.filter_nil]
  · rw [if_neg e, List.filter_cons_of_neg (by rw [e2]; simp [e]), List.filter_nil, List.append_nil]
theorem pkH_app {Ks : List PkS} {q : PkS} {ids : List Nat} {x : Nat} (h : ∀ k ∈ ids, k < Ks.length) : pkH (Ks ++ [q]) ids x ↔ pkH Ks ids x := by
  unfold pkH
  constructor
  · rintro ⟨k, hk, p, hp, hx⟩
    exact ⟨k, hk, p, get_app2 (h k hk) hp, hx⟩
  · rintro ⟨k, hk, p, hp, hx⟩
    exact ⟨k, hk, p, get_app hp, hx⟩
theorem hel_app {Ks : List PkS} {q : PkS} {r : PeS} {x : Nat} (h : ∀ k ∈ pPk r, k < Ks.length) : helP (Ks ++ [q]) r x ↔ helP Ks r x := by
  unfold helP
  rw [pkH_app h]
theorem Inv.ids {C : KsS} {D : MdS} (h : Inv C D) {i : Nat} {r : PeS} (hr : (zPs C)[i]? = some r) : ∀ k ∈ pPk r, k < (zKs C).length := by
  obtain ⟨q, -, ⟨hw, -⟩, -⟩ := h.2.2.2.2.2.2.2.2.2.2.1.l hr
  intro k hk
  rw [hw.2.2.2.1] at hk
  obtain ⟨q, hq, -⟩ := pksM_m.mp hk
  have := get_lt2 hq
  rw [h.2.2.2.2.2.2.1.1]; exact this
theorem pw_app {C : KsS} {D : MdS} {qm : MkS} {r : PeS} {z : MpS} {j : Nat} (hg : ¬ qm.2.2.2.2 = true) (hj : j ≠ qm.1) (h : PeW (zSs C) (dSs D) (zTs C) (dEs D) (dKs D) j r z) : PeW (zSs C) (dSs D) (zTs C) (dEs D) (dKs D ++ [qm]) j r z := by
  refine ⟨h.1, h.2.1, h.2.2.1, ?_, h.2.2.2.2⟩
  rw [pksM_app hg, if_neg (Ne.symm hj)]
  exact h.2.2.2.1
theorem pk_y {C : KsS} {D : MdS} (h : Inv C D) {i f1 f2 g1 g2 : Nat} {r : PeS} {q : MpS} (hr : (zPs C)[i]? = some r) (hq : (dPs D)[i]? = some q) (hf1 : Nq (zSs C) (dSs D) f1 g1) (hf2 : Nq (zSs C) (dSs D) f2 g2) : NtB (dKs D ++ [((i, g1, g2, false, false) : MkS)]) (dEs D) (dPs D) (dSs D).length (dMs D).length ∧ ∀ (E : Nat → Bool) (Qs : List MpS), (∀ y, E y = true ↔ pEv r y = true ∨ helP (zKs C ++ [((i, f1, f2, false, none, false) : PkS)]) ((pNo r, pEv r, pPk r ++ [(zKs C).length], pEp r, pLf r, pNd r, pOn r, pKy r, pCh r, pRn r) : PeS) y) → NtR (dKs D ++ [((i, g1, g2, false, false) : MkS)]) (dEs D) (dPs D) Qs (dPs D).length → Inv (zSs C, zBx C, zZz C, (zPs C).set i ((pNo r, E, pPk r ++ [(zKs C).length], pEp r, pLf r, pNd r, pOn r, pKy r, pCh r, pRn r) : PeS), zKs C ++ [((i, f1, f2, false, none, false) : PkS)], zRs C, zTs C, zSt C, zMs C, zSo C, zBn C) (dSs D, dBx D, dKs D ++ [((i, g1, g2, false, false) : MkS)], Qs, dRs D, dEs D, dMs D, dSo D, 0, dZz D, dBn D, dCm D) := by
  have hids : ∀ j r, (zPs C)[j]? = some r → ∀ k ∈ pPk r, k < (zKs C).length := fun j r hr => h.ids hr
  have htr := h.tr
  obtain ⟨hS, hOk, hz, hbn, hcm, hB, hK, hR, hE, hSt, hP, hM, hSo, hSn, hPk, hPr, hRo, hCm⟩ := h
  obtain ⟨⟨hw, hev, hnd⟩, hrn, hch, hhe⟩ := hP.2 i r q hr hq
  have hil : i < (zPs C).length := get_lt2 hr
  have hK2 : LQ (fun _ => PkQ (zSs C) (dSs D)) (zKs C ++ [((i, f1, f2, false, none, false) : PkS)]) (dKs D ++ [((i, g1, g2, false, false) : MkS)]) := hK.snoc ⟨rfl, hf1, hf2, rfl, rfl, fun z => by cases z⟩
  have hwn : ∀ E, PeW (zSs C) (dSs D) (zTs C) (dEs D) (dKs D ++ [((i, g1, g2, false, false) : MkS)]) i ((pNo r, E, pPk r ++ [(zKs C).length], pEp r, pLf r, pNd r, pOn r, pKy r, pCh r, pRn r) : PeS) q := by
    intro E
    obtain ⟨hw1, hw2, hw3, hw4, hw5, hw6⟩ := hw
    refine ⟨hw1, hw2, hw3, ?_, hw5, hw6⟩
    rw [pksM_app (q := ((i, g1, g2, false, false) : MkS)) (by simp), if_pos rfl]
    show pPk r ++ [(zKs C).length] = _
    rw [hw4, hK.1]
  have hps : ∀ E : Nat → Bool, (∀ y, E y = true ↔ pEv r y = true ∨ helP (zKs C ++ [((i, f1, f2, false, none, false) : PkS)]) ((pNo r, pEv r, pPk r ++ [(zKs C).length], pEp r, pLf r, pNd r, pOn r, pKy r, pCh r, pRn r) : PeS) y) → LQ (fun j r z => PeW (zSs C) (dSs D) (zTs C) (dEs D) (dKs D ++ [((i, g1, g2, false, false) : MkS)]) j r z ∧ evOk (zSs C) (dSs D) (zKs C ++ [((i, f1, f2, false, none, false) : PkS)]) r z) ((zPs C).set i ((pNo r, E, pPk r ++ [(zKs C).length], pEp r, pLf r, pNd r, pOn r, pKy r, pCh r, pRn r) : PeS)) (dPs D) := by
    intro E hE
    refine ⟨by rw [List.length_set]; exact hP.1, fun k s z hs hz => ?_⟩
    rcases set_cases hs with ⟨rfl, rfl⟩ | ⟨e, hs2⟩
    · rw [hq] at hz; cases hz
      exact ⟨hwn E, hnd, _, hev, hE⟩
    · obtain ⟨⟨y1, y2, y3⟩, -, -, y4⟩ := hP.2 k s z hs2 hz
      exact ⟨pw_app (by simp) e y1, evOk.old y2 y3 fun x hx => y4 x ((hel_app (hids k s hs2)).mp hx)⟩
  have hch2 : ∀ E, ChL C ((pNo r, E, pPk r ++ [(zKs C).length], pEp r, pLf r, pNd r, pOn r, pKy r, pCh r, pRn r) : PeS) := fun E => hch
  constructor
  · obtain ⟨E, hE⟩ := cl_bool fun y => pEv r y = true ∨ helP (zKs C ++ [((i, f1, f2, false, none, false) : PkS)]) ((pNo r, pEv r, pPk r ++ [(zKs C).length], pEp r, pLf r, pNd r, pOn r, pKy r, pCh r, pRn r) : PeS) y
    refine ntb_of hK2 htr (hps E hE) fun r9 hr9 l c hc => ?_
    rw [← hM.1]
    obtain ⟨k, hk⟩ := List.getElem?_of_mem hr9
    rcases set_cases hk with ⟨-, rfl⟩ | ⟨-, z⟩
    · exact hch2 E l c hc
    · obtain ⟨q9, -, -, -, w, -⟩ := hP.l z
      exact w l c hc
  intro E Qs hEv hN
  have hps2 := nt_q hK2 htr hN (hps E hEv)
  have hopn : ∀ (k : Nat) (p : PkS), (zKs C ++ [((i, f1, f2, false, none, false) : PkS)])[k]? = some p → p.2.2.2.2.2 = true → (zKs C)[k]? = some p := by
    intro k p hp ho
    rcases snoc_at hp with ⟨-, z⟩ | ⟨-, rfl⟩
    · exact z
    · cases ho
  have hper : ∀ (j : Nat) (s : PeS), (zPs C)[j]? = some s → ∃ s2, ((zPs C).set i ((pNo r, E, pPk r ++ [(zKs C).length], pEp r, pLf r, pNd r, pOn r, pKy r, pCh r, pRn r) : PeS))[j]? = some s2 ∧ pEp s2 = pEp s ∧ pLf s2 = pLf s ∧ pRn s2 = pRn s := by
    intro j s hs
    refine ⟨_, set_at2 hs, ?_⟩
    by_cases e : j = i
    · rw [if_pos e]
      rw [e, hr] at hs; cases hs
      exact ⟨rfl, rfl, rfl⟩
    · rw [if_neg e]; exact ⟨rfl, rfl, rfl⟩
  refine ⟨hS, hOk, hz, hbn, hcm, hB, hK2, ?_, ?_, hSt, ?_, hM, hSo, hSn, ?_, ?_, ?_, ?_⟩
  · refine hR.imp fun k p m hp hm z => ?_
    obtain ⟨T, z1, z2, z3⟩ := z
    refine ⟨T, z1, by show _ < ((zPs C).set i _).length; rw [List.length_set]; exact z2, ?_⟩
    rcases z3 with ⟨w1, w2, w3, k, s, w4, w5, w6, w7, w8⟩ | w | ⟨w1, w2, w3, s, w4, w5, w6, w7⟩
    · obtain ⟨s2, v1, v2, v3, v4⟩ := hper _ s w6
      exact Or.inl ⟨w1, w2, w3, k, s2, get_app w4, w5, v1, by rw [v2]; exact w7, w8⟩
    · exact Or.inr (Or.inl w)
    · obtain ⟨s2, v1, v2, v3, v4⟩ := hper _ s w4
      exact Or.inr (Or.inr ⟨w1, w2, w3, s2, v1, by rw [v2]; exact w5, by rw [v3]; exact w6, by rw [v4]; exact w7⟩)
  · exact hE.imp fun k T E2 hT _ z => EpQ.up (C := C) (D := D) (C2 := (zSs C, zBx C, zZz C, (zPs C).set i ((pNo r, E, pPk r ++ [(zKs C).length], pEp r, pLf r, pNd r, pOn r, pKy r, pCh r, pRn r) : PeS), zKs C ++ [((i, f1, f2, false, none, false) : PkS)], zRs C, zTs C, zSt C, zMs C, zSo C, zBn C)) (D2 := (dSs D, dBx D, dKs D ++ [((i, g1, g2, false, false) : MkS)], Qs, dRs D, dEs D, dMs D, dSo D, 0, dZz D, dBn D, dCm D)) Pf.rfl Pf.rfl (app_nil _) (app_nil _) (app_nil _) (app_nil _) (by show _ ≤ ((zPs C).set i _).length; rw [List.length_set]; exact Nat.le_refl _) hSt hE.1.symm hT z
  · refine hps2.imp fun k s m hs hm z => ?_
    rcases set_cases hs with ⟨rfl, rfl⟩ | ⟨y, hs2⟩
    · exact ⟨z.1, hrn, hch, z.2⟩
    · obtain ⟨m2, -, -, w1, w2, -⟩ := hP.l hs2
      exact ⟨z.1, w1, w2, z.2⟩
  · refine ⟨fun e E l k hE hk => ?_, fun k p hp ho => ?_, fun k p k2 p2 hp hp2 ho ho2 e => hPk.2.2.1 k p k2 p2 (hopn k p hp ho) (hopn k2 p2 hp2 ho2) ho ho2 e, fun p hp => ?_⟩
    · obtain ⟨p, T, z1, z2⟩ := hPk.1 e E l k hE hk
      exact ⟨p, T, get_app z1, z2⟩
    · obtain ⟨e, E, l, s, z1, z2, z3, z4, z5, z6⟩ := hPk.2.1 k p (hopn k p hp ho) ho
      obtain ⟨s2, v1, v2, v3, v4⟩ := hper _ s z4
      exact ⟨e, E, l, s2, z1, z2, z3, v1, by rw [v2]; exact z5, z6⟩
    · show _ < ((zPs C).set i _).length
      rw [List.length_set]
      rcases List.mem_append.mp hp with z | z
      · exact hPk.2.2.2 p z
      · rw [List.mem_singleton.mp z]; exact hil
  · refine ⟨hPr.1, hPr.2.1, fun j k a b x y hjk ha hb h1 h2 hx hy => ?_⟩
    have hin : ∀ (j : Nat) (a : PrS) (x : PkS), (zRs C)[j]? = some a → a.1 = 0 → (zKs C ++ [((i, f1, f2, false, none, false) : PkS)])[a.2.1]? = some x → (zKs C)[a.2.1]? = some x := by
      intro j a x ha h1 hx
      obtain ⟨p, hp, T, -, -, w⟩ := hR.l ha
      rcases w with ⟨-, -, -, k, s, w4, -⟩ | ⟨w, -⟩ | ⟨w, -⟩
      · exact get_app2 (get_lt2 w4) hx
      · omega
      · omega
    exact hPr.2.2 j k a b x y hjk ha hb h1 h2 (hin j a x ha h1 hx) (hin k b y hb h2 hy)
  · intro j p a k T1 T2 l hp ho
    exact hRo j p a k T1 T2 l (hopn j p hp ho) ho
  · intro j s k st T hs hst hT hc
    rcases set_cases hs with ⟨rfl, rfl⟩ | ⟨y, hs2⟩
    · obtain ⟨z1, z2⟩ := hCm j r k st T hr hst hT hc
      exact ⟨z1, fun k2 p a hp ho => z2 k2 p a (hopn k2 p hp ho) ho⟩
    · obtain ⟨z1, z2⟩ := hCm j s k st T hs2 hst hT hc
      exact ⟨z1, fun k2 p a hp ho => z2 k2 p a (hopn k2 p hp ho) ho⟩
