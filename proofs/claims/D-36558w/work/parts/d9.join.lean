set_option maxRecDepth 100000
/-! ===== joining: both sides ===== -/
theorem opn_of {Ks : List PkS} {ids : List Nat} {k : Nat} (h : opI Ks ids = some k) : k ∈ ids ∧ ∃ q, Ks[k]? = some q ∧ q.2.2.2.2.2 = true := by
  unfold opI at h
  have h1 := List.find?_some h
  have h2 := List.mem_of_find?_eq_some h
  unfold opnK at h1
  cases e : Ks[k]? with
  | none => rw [e] at h1; cases h1
  | some q => rw [e] at h1; exact ⟨h2, q, rfl, h1⟩
theorem opn_no {Ks : List PkS} {ids : List Nat} (h : opI Ks ids = none) {k : Nat} {q : PkS} (hk : k ∈ ids) (hq : Ks[k]? = some q) : ¬ q.2.2.2.2.2 = true := by
  unfold opI at h
  have h1 := List.find?_eq_none.mp h k hk
  unfold opnK at h1
  rw [hq] at h1; exact h1
theorem pksM_nd (Ks : List MkS) (i : Nat) : (pksM Ks i).Nodup := List.Nodup.sublist List.filter_sublist List.nodup_range
/-- a package is used up -/
theorem pksM_set {Ks : List MkS} {kk : Nat} {q q2 : MkS} (hq : Ks[kk]? = some q) (h1 : q2.1 = q.1) (h2 : q2.2.2.2.2 = true) (i : Nat) : pksM (Ks.set kk q2) i = if q.1 = i then (pksM Ks i).eraseIdx ((pksM Ks i).idxOf kk) else pksM Ks i := by
  have hl := get_lt2 hq
  have e1 : pksM (Ks.set kk q2) i = (pksM Ks i).filter (fun k => k != kk) := by
    unfold pksM
    rw [List.length_set, List.filter_filter]
    refine List.filter_congr fun k hk => ?_
    have hk := List.mem_range.mp hk
    obtain ⟨p, hp⟩ := get_ex hk
    rw [set_at2 hp, hp]
    by_cases e : k = kk
    · rw [if_pos e]; simp [e, h2]
    · rw [if_neg e]; simp [e]
  rw [e1]
  by_cases e : q.1 = i
  · rw [if_pos e, ← List.erase_eq_eraseIdx_of_idxOf rfl, (pksM_nd Ks i).erase_eq_filter]
  · rw [if_neg e, List.filter_eq_self]
    intro k hk
    obtain ⟨p, hp, h3, -⟩ := pksM_m.mp hk
    simp only [bne_iff_ne, ne_eq]
    intro z
    rw [z, hq] at hp; cases hp; exact e h3
theorem pkH_set {Ks : List PkS} {kk : Nat} {q : PkS} {ids : List Nat} {x : Nat} (hq : Ks[kk]? = some q) : pkH (Ks.set kk (shtP q)) ids x ↔ pkH Ks ids x := by
  unfold pkH
  constructor
  · rintro ⟨k, hk, p, hp, hx⟩
    rcases set_cases hp with ⟨rfl, rfl⟩ | ⟨-, hp⟩
    · exact ⟨k, hk, q, hq, hx⟩
    · exact ⟨k, hk, p, hp, hx⟩
  · rintro ⟨k, hk, p, hp, hx⟩
    refine ⟨k, hk, _, set_at2 hp, ?_⟩
    by_cases e : k = kk
    · rw [if_pos e]
      rw [e, hq] at hp; cases hp; exact hx
    · rw [if_neg e]; exact hx
theorem hel_set {Ks : List PkS} {kk : Nat} {q : PkS} {r : PeS} {x : Nat} (hq : Ks[kk]? = some q) : helP (Ks.set kk (shtP q)) r x ↔ helP Ks r x := by
  unfold helP
  rw [pkH_set hq]
/-- an open package: all that is known of it -/
theorem pk_op {C : KsS} {D : MdS} (h : Inv C D) {i kk : Nat} {r : PeS} (hr : (zPs C)[i]? = some r) (hop : opI (zKs C) (pPk r) = some kk) : ∃ q qm nx E T l, (zKs C)[kk]? = some q ∧ (dKs D)[kk]? = some qm ∧ PkQ (zSs C) (dSs D) q qm ∧ q.1 = i ∧ q.2.2.2.2.2 = true ∧ qm.1 = i ∧ (¬ qm.2.2.2.2 = true) ∧ qm.2.2.2.1 = true ∧ q.2.2.2.2.1 = some nx ∧ 0 < nx ∧ (dEs D)[nx]? = some E ∧ (zTs C)[nx]? = some T ∧ ePk E l = some kk ∧ T.2.2.2 l = some i ∧ T.2.1 (2 * l) = some q.2.1 ∧ pEp r = none ∧ ∀ (j : Nat) (T : TrS), nx ≤ j → (zTs C)[j]? = some T → T.2.2.2 l = some i := by
  obtain ⟨hS, hOk, hz, hbn, hcm, hB, hK, hR, hE, hSt, hP, hM, hSo, hSn, hPk, hPr, hRo, hCm⟩ := h
  obtain ⟨qm0, -, ⟨hw, -, -⟩, -⟩ := hP.l hr
  obtain ⟨hk, q, hq, ho⟩ := opn_of hop
  rw [hw.2.2.2.1] at hk
  obtain ⟨qm, hqm, h1, h2⟩ := pksM_m.mp hk
  have hQ := hK.2 kk q qm hq hqm
  obtain ⟨e, E, l, r2, z1, z2, z3, z4, z5, z6⟩ := hPk.2.1 kk q hq ho
  obtain ⟨q2, T, w1, w2, w3, w4, w5, w6, w7⟩ := hPk.1 e E l kk z2 z3
  rw [hq] at w1; cases w1
  have hi : q.1 = i := by rw [hQ.1]; exact h1
  rw [hi, hr] at z4; cases z4
  rw [hi] at w5 z6
  exact ⟨q, qm, e, E, T, l, hq, hqm, hQ, hi, ho, h1, h2, by rw [← hQ.2.2.2.1]; exact w3, z1, w7, z2, w2, z3, w5, w6, z5, z6⟩
theorem jn_inv {C : KsS} {D : MdS} (h : Inv C D) {i kk nx : Nat} {r r2 : PeS} {q : PkS} {qm : MkS} {Qs : List MpS} (hr : (zPs C)[i]? = some r) (hq : (zKs C)[kk]? = some q) (hqm : (dKs D)[kk]? = some qm) (hqo : q.2.2.2.2.2 = true) (hqi : q.1 = i) (hqn : q.2.2.2.2.1 = some nx) (he : pEp r = none) (he2 : pEp r2 = some nx) (hps : LQ (fun j r z => PeQ (zSs C) (dSs D) (zTs C) (dEs D) ((dKs D).set kk ((qm.1, qm.2.1, qm.2.2.1, qm.2.2.2.1, true) : MkS)) j r z ∧ ∀ x, helP ((zKs C).set kk (shtP q)) r x → pEv r x = true) ((zPs C).set i r2) Qs) (hrn : RnQ C i r2) (hch : ChL C r2) : Inv (zSs C, zBx C, zZz C, (zPs C).set i r2, (zKs C).set kk (shtP q), zRs C, zTs C, zSt C, zMs C, zSo C, zBn C) (dSs D, dBx D, (dKs D).set kk ((qm.1, qm.2.1, qm.2.2.1, qm.2.2.2.1, true) : MkS), Qs, dRs D, dEs D, dMs D, dSo D, 0, dZz D, dBn D, dCm D) := by
  have hopn : ∀ (k : Nat) (p : PkS), ((zKs C).set kk (shtP q))[k]? = some p → p.2.2.2.2.2 = true → k ≠ kk ∧ (zKs C)[k]? = some p := by
    intro k p hp ho
    rcases set_cases hp with ⟨-, rfl⟩ | z
    · cases ho
    · exact z
  have hold : ∀ (k : Nat) (p : PkS), (zKs C)[k]? = some p → ∃ p2, ((zKs C).set kk (shtP q))[k]? = some p2 ∧ p2.1 = p.1 ∧ p2.2.1 = p.2.1 ∧ p2.2.2.2.1 = p.2.2.2.1 ∧ p2.2.2.2.2.1 = p.2.2.2.2.1 := by
    intro k p hp
    refine ⟨_, set_at2 hp, ?_⟩
    by_cases e : k = kk
    · rw [if_pos e]
      rw [e, hq] at hp; cases hp
      exact ⟨rfl, rfl, rfl, rfl⟩
    · rw [if_neg e]; exact ⟨rfl, rfl, rfl, rfl⟩
  have hbk : ∀ (k : Nat) (p : PkS), ((zKs C).set kk (shtP q))[k]? = some p → ∃ p2, (zKs C)[k]? = some p2 ∧ p2.1 = p.1 := by
    intro k p hp
    rcases set_cases hp with ⟨rfl, rfl⟩ | ⟨-, z⟩
    · exact ⟨q, hq, rfl⟩
    · exact ⟨p, z, rfl⟩
  obtain ⟨hS, hOk, hz, hbn, hcm, hB, hK, hR, hE, hSt, hP, hM, hSo, hSn, hPk, hPr, hRo, hCm⟩ := h
  have hQ := hK.2 kk q qm hq hqm
  obtain ⟨e0, E0, l0, r0, y1, y2, y3, y4, y5, y6⟩ := hPk.2.1 kk q hq hqo
  rw [hqn] at y1; cases y1
  have hlast : ∀ T, (zTs C)[(zTs C).length - 1]? = some T → T.2.2.2 l0 = some i := fun T hT => by
    rw [← hqi]
    refine y6 _ T ?_ hT
    have h1 := get_lt2 y2
    rw [← hE.1] at h1
    omega
  refine ⟨hS, hOk, hz, hbn, hcm, hB, hK.set ⟨hQ.1, hQ.2.1, hQ.2.2.1, hQ.2.2.2.1, (by show false = (qm.2.2.2.1 && !true); simp), fun _ => ?_⟩, ?_, ?_, hSt, ?_, hM, hSo, hSn, ?_, ?_, ?_, ?_⟩
  · have h1 := hQ.2.2.2.2.1
    rw [hqo] at h1
    show qm.2.2.2.1 = true
    cases e : qm.2.2.2.1 with
    | true => rfl
    | false => rw [e] at h1; cases h1
  · refine hR.imp fun k p m hp hm z => ?_
    obtain ⟨T, z1, z2, z3⟩ := z
    refine ⟨T, z1, by show _ < ((zPs C).set i r2).length; rw [List.length_set]; exact z2, ?_⟩
    rcases z3 with ⟨w1, w2, w3, k, s, w4, w5, w6, w7, w8⟩ | w | ⟨w1, w2, w3, s, w4, w5, w6, w7⟩
    · have e1 : p.2.1 ≠ kk := by
        intro e
        rw [e, hq] at w4; cases w4
        obtain ⟨-, T9, -⟩ := hPk.1 nx E0 l0 kk y2 y3
        obtain ⟨q9, T9, x1, -, x2, -⟩ := hPk.1 nx E0 l0 kk y2 y3
        rw [hq] at x1; cases x1
        exact w5 x2
      have e2 : k.1 ≠ i := fun e => w8 l0 (by rw [hlast T z1, e])
      refine Or.inl ⟨w1, w2, w3, k, s, ?_, w5, ?_, w7, w8⟩
      · have := set_at2 (i := kk) (a := shtP q) w4
        rw [if_neg e1] at this; exact this
      · have := set_at2 (i := i) (a := r2) w6
        rw [if_neg e2] at this; exact this
    · exact Or.inr (Or.inl w)
    · refine Or.inr (Or.inr ⟨w1, w2, w3, s, ?_, w5, w6, w7⟩)
      have := set_at2 (i := i) (a := r2) w4
      rw [if_neg] at this
      · exact this
      · intro e
        rw [e, hr] at w4
        have e2 := Option.some.inj w4
        rw [← e2, he] at w5
        exact isF_n w5
  · exact hE.imp fun k T E hT _ z => EpQ.up (C := C) (D := D) (C2 := (zSs C, zBx C, zZz C, (zPs C).set i r2, (zKs C).set kk (shtP q), zRs C, zTs C, zSt C, zMs C, zSo C, zBn C)) (D2 := (dSs D, dBx D, (dKs D).set kk ((qm.1, qm.2.1, qm.2.2.1, qm.2.2.2.1, true) : MkS), Qs, dRs D, dEs D, dMs D, dSo D, 0, dZz D, dBn D, dCm D)) Pf.rfl Pf.rfl (app_nil _) (app_nil _) (app_nil _) (app_nil _) (by show _ ≤ ((zPs C).set i r2).length; rw [List.length_set]; exact Nat.le_refl _) hSt hE.1.symm hT z
  · refine hps.imp fun k s m hs hm z => ?_
    rcases set_cases hs with ⟨rfl, rfl⟩ | ⟨y, hs2⟩
    · exact ⟨z.1, hrn, hch, z.2⟩
    · obtain ⟨m2, -, -, w1, w2, -⟩ := hP.l hs2
      exact ⟨z.1, w1, w2, z.2⟩
  · refine ⟨fun e E l k hE hk => ?_, fun k p hp ho => ?_, fun k p k2 p2 hp hp2 ho ho2 e => ?_, fun p hp => ?_⟩
    · obtain ⟨p, T, z1, z2, z3, z4, z5, z6, z7⟩ := hPk.1 e E l k hE hk
      obtain ⟨p2, g1, g2, g3, g4, g5⟩ := hold k p z1
      exact ⟨p2, T, g1, z2, by rw [g4]; exact z3, by rw [g5]; exact z4, by rw [g2]; exact z5, by rw [g3]; exact z6, z7⟩
    · obtain ⟨g1, g2⟩ := hopn k p hp ho
      obtain ⟨e, E, l, s, z1, z2, z3, z4, z5, z6⟩ := hPk.2.1 k p g2 ho
      refine ⟨e, E, l, s, z1, z2, z3, ?_, z5, z6⟩
      have := set_at2 (i := i) (a := r2) z4
      rw [if_neg] at this
      · exact this
      · intro e9
        exact g1 (hPk.2.2.1 k p kk q g2 hq ho hqo (by rw [e9, hqi]))
    · obtain ⟨g1, g2⟩ := hopn k p hp ho
      obtain ⟨g3, g4⟩ := hopn k2 p2 hp2 ho2
      exact hPk.2.2.1 k p k2 p2 g2 g4 ho ho2 e
    · show _ < ((zPs C).set i r2).length
      rw [List.length_set]
      obtain ⟨k, hk⟩ := List.getElem?_of_mem hp
      obtain ⟨p2, g1, g2⟩ := hbk k p hk
      rw [← g2]; exact hPk.2.2.2 p2 (List.mem_of_getElem? g1)
  · refine ⟨hPr.1, hPr.2.1, fun j k a b x y hjk ha hb h1 h2 hx hy => ?_⟩
    obtain ⟨x2, g1, g2⟩ := hbk _ x hx
    obtain ⟨y2, g3, g4⟩ := hbk _ y hy
    rw [← g2, ← g4]
    exact hPr.2.2 j k a b x2 y2 hjk ha hb h1 h2 g1 g3
  · intro j p a k T1 T2 l hp ho
    obtain ⟨g1, g2⟩ := hopn j p hp ho
    exact hRo j p a k T1 T2 l g2 ho
  · intro j s k st T hs hst hT hc
    rcases set_cases hs with ⟨rfl, rfl⟩ | ⟨y, hs2⟩
    · obtain ⟨z1, z2⟩ := hCm j r k st T hr hst hT hc
      refine ⟨fun e z => ?_, fun k2 p a hp ho => z2 k2 p a (hopn k2 p hp ho).2 ho⟩
      rw [he2] at z; cases z
      have := z2 kk q nx hq hqo hqi hqn
      omega
    · obtain ⟨z1, z2⟩ := hCm j s k st T hs2 hst hT hc
      exact ⟨z1, fun k2 p a hp ho => z2 k2 p a (hopn k2 p hp ho).2 ho⟩
