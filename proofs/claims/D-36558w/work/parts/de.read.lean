set_option maxRecDepth 100000
/-! ===== the readers answer alike ===== -/
/-- both sides have answered alike -/
def Al (k : Nat) (C : KsS) (f : Int64) (k2 : Nat) (x : Int32) (D : MdS) : Prop := k = k2 ∧ (k = 0 → f = x.toInt64) ∧ Inv C D
theorem Al.x {C : KsS} {D : MdS} {k : Nat} {f : Int64} {x : Int32} (hk : k ≠ 0) (h : Inv C D) : Al k C f k x D := ⟨rfl, fun z => absurd z hk, h⟩
theorem bl_q {P : Prop} {f : Int64} {b : Bool} (h : (P → f = 1) ∧ (¬ P → f = 0)) (hb : P ↔ b = true) : f = (nI (if b = true then 1 else 0)).toInt64 := by
  cases b with
  | true => rw [h.1 (hb.mpr rfl)]; rfl
  | false => rw [h.2 fun z => by have := hb.mp z; cases this]; rfl
theorem ix_eq {v : Int32} {i j n m : Nat} (h1 : v = nI i) (h2 : v = nI j) (hi : i < n) (hj : j < m) (hn : n ≤ 1000) (hm : m ≤ 1000) : i = j := by
  rw [h1] at h2
  exact (nI_eq (by omega) (by omega)).mp h2
theorem inR_y {v : Int32} {i n : Nat} (h1 : v = nI i) (hi : i < n) (hn : n ≤ 1000) : inR v n = true := by
  rw [h1, inR_k (by omega)]; simp [hi]
theorem Inv.ln {C : KsS} {D : MdS} (h : Inv C D) : (dPs D).length = (zPs C).length ∧ (dKs D).length = (zKs C).length ∧ (dRs D).length = (zRs C).length ∧ (dEs D).length = (zTs C).length ∧ (dMs D).length = (zMs C).length := ⟨h.2.2.2.2.2.2.2.2.2.2.1.1.symm, h.2.2.2.2.2.2.1.1.symm, h.2.2.2.2.2.2.2.1.1.symm, h.2.2.2.2.2.2.2.2.1.1.symm, h.2.2.2.2.2.2.2.2.2.2.2.1.1.symm⟩
theorem Inv.pe {C : KsS} {D : MdS} (h : Inv C D) (hC : KsB C) {v : Int32} {i j : Nat} {r : PeS} {q : MpS} (h1 : v = nI i) (hr : (zPs C)[i]? = some r) (h2 : v = nI j) (hq : (dPs D)[j]? = some q) : i = j ∧ PeW (zSs C) (dSs D) (zTs C) (dEs D) (dKs D) i r q ∧ Sq (zSs C) (dSs D) (fun x => pEv r x = true) (fun y => y ∈ mEv q) := by
  have hl := h.ln.1
  have hc := hC.2.2.1
  have e := ix_eq h1 h2 (get_lt2 hr) (get_lt2 hq) (by omega) (by omega)
  subst e
  obtain ⟨⟨hw, hev, hnd⟩, -⟩ := h.2.2.2.2.2.2.2.2.2.2.1.2 i r q hr hq
  exact ⟨rfl, hw, hev⟩
theorem al_epoch {C C9 : KsS} {D : MdS} {k k2 : Nat} {f : Int64} {x : Int32} (h : Inv C D) (hk : (k = 0 ∧ C9 = C ∧ (f = (nI (zTs C).length - nI 1).toInt64) ∧ (zTs C ≠ [])) ∨ (k = 1 ∧ C9 = C ∧ (¬ zTs C ≠ []))) (hm : (k2 = 1 ∧ dEs D = []) ∨ (k2 = 0 ∧ dEs D ≠ [] ∧ x = nI (dEs D).length - nI 1)) : Al k C9 f k2 x (dT D k2) := by
  have hn := h.nil
  rcases hk with ⟨k0, c, hf, hne⟩ | ⟨k0, c, hne⟩ <;> rcases hm with ⟨m0, hm⟩ | ⟨m0, hm, hx⟩
  · exact absurd (hn.mpr hm) hne
  · subst c k0 m0; exact ⟨rfl, fun _ => by rw [hf, hx, h.ln.2.2.2.1], h⟩
  · subst c k0 m0; exact Al.x (by decide) h
  · exact absurd (hn.mp (Classical.not_not.mp hne)) hm
theorem al_leaves {C C9 : KsS} {D : MdS} {T : TrS} {Ep : MeS} {k k2 : Nat} {f : Int64} {x : Int32} (h : Inv C D) (hT : TrQ (zSs C) (dSs D) T (eTr Ep)) (hk : (k = 0 ∧ C9 = C ∧ (f = (nI (2 ^ T.1)).toInt64) ∧ (zTs C ≠ [])) ∨ (k = 1 ∧ C9 = C ∧ (¬ zTs C ≠ []))) (hm : (k2 = 1 ∧ dEs D = []) ∨ (k2 = 0 ∧ dEs D ≠ [] ∧ x = nI (2 ^ (eTr Ep).1))) : Al k C9 f k2 x (dT D k2) := by
  have hn := h.nil
  rcases hk with ⟨k0, c, hf, hne⟩ | ⟨k0, c, hne⟩ <;> rcases hm with ⟨m0, hm⟩ | ⟨m0, hm, hx⟩
  · exact absurd (hn.mpr hm) hne
  · subst c k0 m0; exact ⟨rfl, fun _ => by rw [hf, hx, hT.1], h⟩
  · subst c k0 m0; exact Al.x (by decide) h
  · exact absurd (hn.mp (Classical.not_not.mp hne)) hm
theorem al_epochOf {C C9 : KsS} {D : MdS} {v : Int32} {k k2 : Nat} {f : Int64} {x : Int32} (h : Inv C D) (hC : KsB C) (hk : (k = 0 ∧ ∃ (i : Nat) (r : PeS), C9 = C ∧ (f = (oI (pEp r)).toInt64) ∧ (v = nI i) ∧ ((zPs C)[i]? = some r) ∧ (¬ pEp r = none)) ∨ (k = 1 ∧ C9 = C ∧ (¬ inR v (zPs C).length = true)) ∨ (k = 2 ∧ C9 = C ∧ (∃ (i : Nat) (r : PeS), v = nI i ∧ (zPs C)[i]? = some r ∧ pEp r = none))) (hm : (k2 = 1 ∧ ¬ inR v (dPs D).length = true) ∨ ∃ (i : Nat) (r : MpS), v = nI i ∧ (dPs D)[i]? = some r ∧ ((k2 = 2 ∧ mEp r = none) ∨ (k2 = 0 ∧ ¬ mEp r = none ∧ x = oI (mEp r)))) : Al k C9 f k2 x (dT D k2) := by
  have hl := h.ln.1
  have hc := hC.2.2.1
  rcases hk with ⟨k0, i, r, c, hf, hv, hr, hne⟩ | ⟨k0, c, hne⟩ | ⟨k0, c, i, r, hv, hr, hne⟩ <;> rcases hm with ⟨m0, hm⟩ | ⟨j, q, hv2, hq, ⟨m0, hm⟩ | ⟨m0, hm, hx⟩⟩
  · exact absurd (inR_y hv (by rw [hl]; exact get_lt2 hr) (by omega)) hm
  · obtain ⟨-, hw, -⟩ := h.pe hC hv hr hv2 hq
    rw [hw.2.1] at hm; exact absurd hm hne
  · obtain ⟨-, hw, -⟩ := h.pe hC hv hr hv2 hq
    subst c k0 m0; exact ⟨rfl, fun _ => by rw [hf, hx, hw.2.1], h⟩
  · subst c k0 m0; exact Al.x (by decide) h
  · exact absurd (inR_y hv2 (by rw [← hl]; exact get_lt2 hq) (by omega)) hne
  · exact absurd (inR_y hv2 (by rw [← hl]; exact get_lt2 hq) (by omega)) hne
  · exact absurd (inR_y hv (by rw [hl]; exact get_lt2 hr) (by omega)) hm
  · subst c k0 m0; exact Al.x (by decide) h
  · obtain ⟨-, hw, -⟩ := h.pe hC hv hr hv2 hq
    rw [hw.2.1] at hm; exact absurd hne hm
theorem al_leafOf {C C9 : KsS} {D : MdS} {v : Int32} {k k2 : Nat} {f : Int64} {x : Int32} (h : Inv C D) (hC : KsB C) (hk : (k = 0 ∧ ∃ (i : Nat) (r : PeS), C9 = C ∧ (f = (nI (pLf r)).toInt64) ∧ (v = nI i) ∧ ((zPs C)[i]? = some r) ∧ (¬ pEp r = none)) ∨ (k = 1 ∧ C9 = C ∧ (¬ inR v (zPs C).length = true)) ∨ (k = 2 ∧ C9 = C ∧ (∃ (i : Nat) (r : PeS), v = nI i ∧ (zPs C)[i]? = some r ∧ pEp r = none))) (hm : (k2 = 1 ∧ ¬ inR v (dPs D).length = true) ∨ ∃ (i : Nat) (r : MpS), v = nI i ∧ (dPs D)[i]? = some r ∧ ((k2 = 2 ∧ mEp r = none) ∨ (k2 = 0 ∧ ¬ mEp r = none ∧ x = nI (mLf r)))) : Al k C9 f k2 x (dT D k2) := by
  have hl := h.ln.1
  have hc := hC.2.2.1
  rcases hk with ⟨k0, i, r, c, hf, hv, hr, hne⟩ | ⟨k0, c, hne⟩ | ⟨k0, c, i, r, hv, hr, hne⟩ <;> rcases hm with ⟨m0, hm⟩ | ⟨j, q, hv2, hq, ⟨m0, hm⟩ | ⟨m0, hm, hx⟩⟩
  · exact absurd (inR_y hv (by rw [hl]; exact get_lt2 hr) (by omega)) hm
  · obtain ⟨-, hw, -⟩ := h.pe hC hv hr hv2 hq
    rw [hw.2.1] at hm; exact absurd hm hne
  · obtain ⟨-, hw, -⟩ := h.pe hC hv hr hv2 hq
    cases e : pEp r with
    | none => exact absurd e hne
    | some ep =>
      obtain ⟨T, Ep, a1, a2, a3, a4, -⟩ := hw.2.2.2.2.2 ep e
      subst c k0 m0; exact ⟨rfl, fun _ => by rw [hf, hx, a4], h⟩
  · subst c k0 m0; exact Al.x (by decide) h
  · exact absurd (inR_y hv2 (by rw [← hl]; exact get_lt2 hq) (by omega)) hne
  · exact absurd (inR_y hv2 (by rw [← hl]; exact get_lt2 hq) (by omega)) hne
  · exact absurd (inR_y hv (by rw [hl]; exact get_lt2 hr) (by omega)) hm
  · subst c k0 m0; exact Al.x (by decide) h
  · obtain ⟨-, hw, -⟩ := h.pe hC hv hr hv2 hq
    rw [hw.2.1] at hm; exact absurd hne hm
theorem al_key {C C9 : KsS} {D : MdS} {v : Int32} {k k2 : Nat} {f : Int64} {x : Int32} (h : Inv C D) (hC : KsB C) (hk : (k = 0 ∧ ∃ (i : Nat) (r : PeS), C9 = C ∧ (f = (vl (zSs C) (pKy r)).toInt64) ∧ (v = nI i) ∧ ((zPs C)[i]? = some r) ∧ (¬ pEp r = none)) ∨ (k = 1 ∧ C9 = C ∧ (¬ inR v (zPs C).length = true)) ∨ (k = 2 ∧ C9 = C ∧ (∃ (i : Nat) (r : PeS), v = nI i ∧ (zPs C)[i]? = some r ∧ pEp r = none))) (hm : (k2 = 1 ∧ ¬ inR v (dPs D).length = true) ∨ ∃ (i : Nat) (r : MpS), v = nI i ∧ (dPs D)[i]? = some r ∧ ((k2 = 2 ∧ mEp r = none) ∨ (k2 = 0 ∧ ∃ e Ep, mEp r = some e ∧ (dEs D)[e]? = some Ep ∧ x = vl (dSs D) (eKy Ep)))) : Al k C9 f k2 x (dT D k2) := by
  have hl := h.ln.1
  have hc := hC.2.2.1
  rcases hk with ⟨k0, i, r, c, hf, hv, hr, hne⟩ | ⟨k0, c, hne⟩ | ⟨k0, c, i, r, hv, hr, hne⟩ <;> rcases hm with ⟨m0, hm⟩ | ⟨j, q, hv2, hq, ⟨m0, hm⟩ | ⟨m0, ee, Ep, hm, hEp, hx⟩⟩
  · exact absurd (inR_y hv (by rw [hl]; exact get_lt2 hr) (by omega)) hm
  · obtain ⟨-, hw, -⟩ := h.pe hC hv hr hv2 hq
    rw [hw.2.1] at hm; exact absurd hm hne
  · obtain ⟨-, hw, -⟩ := h.pe hC hv hr hv2 hq
    obtain ⟨T, Ep2, a1, a2, a3, a4, a5, a6, a7, a8, a9, b1, -⟩ := hw.2.2.2.2.2 ee (by rw [← hw.2.1]; exact hm)
    rw [hEp] at a2; cases a2
    subst c k0 m0; exact ⟨rfl, fun _ => by rw [hf, hx, h.1.vl b1], h⟩
  · subst c k0 m0; exact Al.x (by decide) h
  · exact absurd (inR_y hv2 (by rw [← hl]; exact get_lt2 hq) (by omega)) hne
  · exact absurd (inR_y hv2 (by rw [← hl]; exact get_lt2 hq) (by omega)) hne
  · exact absurd (inR_y hv (by rw [hl]; exact get_lt2 hr) (by omega)) hm
  · subst c k0 m0; exact Al.x (by decide) h
  · obtain ⟨-, hw, -⟩ := h.pe hC hv hr hv2 hq
    rw [hw.2.1, hne] at hm; cases hm
theorem al_isMember {C C9 : KsS} {D : MdS} {v u : Int32} {k k2 : Nat} {f : Int64} {b : Bool} (h : Inv C D) (hC : KsB C) (hk : (k = 0 ∧ ∃ (i : Nat) (r : PeS) (j : Nat) (T : TrS), C9 = C ∧ (((¬ lof T (pNo r) = none) → f = 1) ∧ (¬ (¬ lof T (pNo r) = none) → f = 0)) ∧ (v = nI i) ∧ ((zPs C)[i]? = some r) ∧ (u = nI j) ∧ ((zTs C)[j]? = some T)) ∨ (k = 1 ∧ C9 = C ∧ (¬ (inR v (zPs C).length = true ∧ inR u (zTs C).length = true)))) (hm : (k2 = 1 ∧ ¬ (inR v (dPs D).length = true ∧ inR u (dEs D).length = true)) ∨ (k2 = 0 ∧ ∃ (i j : Nat) (Ep : MeS), v = nI i ∧ i < (dPs D).length ∧ u = nI j ∧ (dEs D)[j]? = some Ep ∧ (b = true ↔ ¬ lof (eTr Ep) i = none))) : Al k C9 f k2 (nI (if b = true then 1 else 0)) (dT D k2) := by
  have hl := h.ln
  have hc := hC.2.2.1
  have hc2 := hC.2.2.2.2.2.1
  rcases hk with ⟨k0, i, r, j, T, c, hf, hv, hr, hu, hT⟩ | ⟨k0, c, hne⟩ <;> rcases hm with ⟨m0, hm⟩ | ⟨m0, i2, j2, Ep, hv2, hi2, hu2, hEp, hb⟩
  · exact absurd ⟨inR_y hv (by rw [hl.1]; exact get_lt2 hr) (by omega), inR_y hu (by rw [hl.2.2.2.1]; exact get_lt2 hT) (by omega)⟩ hm
  · have e1 := ix_eq hv hv2 (get_lt2 hr) hi2 (by omega) (by omega)
    have e2 := ix_eq hu hu2 (get_lt2 hT) (get_lt2 hEp) (by omega) (by omega)
    subst e1 e2
    obtain ⟨q, -, ⟨hw, -, -⟩, -⟩ := h.2.2.2.2.2.2.2.2.2.2.1.l hr
    have hQ := (h.2.2.2.2.2.2.2.2.1.2 _ T Ep hT hEp).2.2.1
    subst c k0 m0
    exact ⟨rfl, fun _ => bl_q hf (by rw [hb, hw.1, lof_eq hQ.1 hQ.2.2.2]), h⟩
  · subst c k0 m0; exact Al.x (by decide) h
  · exact absurd ⟨inR_y hv2 (by rw [← hl.1]; exact hi2) (by omega), inR_y hu2 (by rw [← hl.2.2.2.1]; exact get_lt2 hEp) (by omega)⟩ hne
theorem al_proposal {C C9 : KsS} {D : MdS} {v : Int32} {k k2 : Nat} {f : Int64} {x : Int32} (h : Inv C D) (hC : KsB C) (hk : (k = 0 ∧ ∃ (i : Nat) (r : PrS), C9 = C ∧ (f = (nI (prK r)).toInt64) ∧ (v = nI i) ∧ ((zRs C)[i]? = some r)) ∨ (k = 1 ∧ C9 = C ∧ (¬ inR v (zRs C).length = true))) (hm : (k2 = 1 ∧ ¬ inR v (dRs D).length = true) ∨ (k2 = 0 ∧ ∃ (i : Nat) (r : MrS), v = nI i ∧ (dRs D)[i]? = some r ∧ x = nI r.1)) : Al k C9 f k2 x (dT D k2) := by
  have hl := h.ln
  have hc := hC.2.2.2.2.1
  rcases hk with ⟨k0, i, r, c, hf, hv, hr⟩ | ⟨k0, c, hne⟩ <;> rcases hm with ⟨m0, hm⟩ | ⟨m0, i2, q, hv2, hq, hx⟩
  · exact absurd (inR_y hv (by rw [hl.2.2.1]; exact get_lt2 hr) (by omega)) hm
  · have e1 := ix_eq hv hv2 (get_lt2 hr) (get_lt2 hq) (by omega) (by omega)
    subst e1
    have hQ := (h.2.2.2.2.2.2.2.1.2 _ r q hr hq).k
    subst c k0 m0
    refine ⟨rfl, fun _ => ?_, h⟩
    rw [hf, hx]
    have : prK r = q.1 := by
      unfold prK
      rcases hQ with ⟨a, b, -⟩ | ⟨a, b, -⟩ | ⟨a, b, -⟩ <;> rw [a, b] <;> rfl
    rw [this]
  · subst c k0 m0; exact Al.x (by decide) h
  · exact absurd (inR_y hv2 (by rw [← hl.2.2.1]; exact get_lt2 hq) (by omega)) hne
section
variable {C C9 : KsS} {D : MdS} {T : TrS} {Ep : MeS} {v u : Int32} {k k2 : Nat} {f : Int64} {x : Int32} {b : Bool}
theorem cov_eq {U : TrS} (h1 : T.1 = U.1) (h2 : ∀ n, T.2.1 n = none ↔ U.2.1 n = none) (h3 : ∀ n, T.2.2.1 n = U.2.2.1 n) : ∀ j n, covF T j n = covF U j n
  | 0, n => by unfold covF; rw [h1, h3]; by_cases e : T.2.1 n = none
               · rw [if_pos e, if_pos ((h2 n).mp e)]
               · rw [if_neg e, if_neg (fun z => e ((h2 n).mpr z))]
  | j + 1, n => by
    unfold covF
    rw [h1, h3]
    by_cases e : T.2.1 n = none
    · rw [if_pos e, if_pos ((h2 n).mp e)]
      show covF T j _ ++ covF T j _ = covF U j _ ++ covF U j _
      rw [cov_eq h1 h2 h3 j, cov_eq h1 h2 h3 j]
    · rw [if_neg e, if_neg (fun z => e ((h2 n).mpr z))]
theorem TrQ.cov {ss tt : List Sec} {U : TrS} (h : TrQ ss tt T U) (n : Nat) : cov T n = cov U n := cov_eq h.1 (fun n => (h.2.1 n).no) h.2.2.1 _ _
theorem nd_n {m : Nat} (h : TrI T) : 2 * 2 ^ T.1 - 1 ≤ 1000 ∧ 2 ^ T.1 ≤ 1000 := by have := p2_4 h.1; omega
theorem al_isBlank (h : Inv C D) (hI : zTs C ≠ [] → TrI T) (hT : zTs C ≠ [] → TrQ (zSs C) (dSs D) T (eTr Ep)) (hk : (k = 0 ∧ ∃ (i : Nat), C9 = C ∧ (((T.2.1 i = none) → f = 1) ∧ (¬ (T.2.1 i = none) → f = 0)) ∧ (v = nI i) ∧ (i < 2 * 2 ^ T.1 - 1) ∧ (zTs C ≠ [])) ∨ (k = 1 ∧ C9 = C ∧ (¬ (zTs C ≠ [] ∧ inR v (2 * 2 ^ T.1 - 1) = true)))) (hm : (k2 = 1 ∧ ¬ (dEs D ≠ [] ∧ inR v (2 * 2 ^ (eTr Ep).1 - 1) = true)) ∨ (k2 = 0 ∧ dEs D ≠ [] ∧ ∃ i : Nat, v = nI i ∧ i < 2 * 2 ^ (eTr Ep).1 - 1 ∧ (b = true ↔ (eTr Ep).2.1 i = none))) : Al k C9 f k2 (nI (if b = true then 1 else 0)) (dT D k2) := by
  have hn := not_congr h.nil
  rcases hk with ⟨k0, i, c, hf, hv, hi, hne⟩ | ⟨k0, c, hne⟩ <;> rcases hm with ⟨m0, hm⟩ | ⟨m0, hm, j, hv2, hj, hb⟩
  · have hT := hT hne
    rw [← hT.1] at hm
    exact absurd ⟨hn.mp hne, inR_y hv hi (nd_n (m := 0) (hI hne)).1⟩ hm
  · have hT := hT hne
    rw [← hT.1] at hj
    have e1 := ix_eq hv hv2 hi hj (nd_n (m := 0) (hI hne)).1 (nd_n (m := 0) (hI hne)).1
    subst e1 c k0 m0
    exact ⟨rfl, fun _ => bl_q hf (by rw [hb]; exact (hT.2.1 _).no), h⟩
  · subst c k0 m0; exact Al.x (by decide) h
  · have hT := hT (hn.mpr hm)
    rw [← hT.1] at hj
    exact absurd ⟨hn.mpr hm, inR_y hv2 hj (nd_n (m := 0) (hI (hn.mpr hm))).1⟩ hne
theorem al_late (h : Inv C D) (hI : zTs C ≠ [] → TrI T) (hT : zTs C ≠ [] → TrQ (zSs C) (dSs D) T (eTr Ep)) (hk : (k = 0 ∧ ∃ (i : Nat), C9 = C ∧ (f = (nI (T.2.2.1 i)).toInt64) ∧ (v = nI i) ∧ (i < 2 * 2 ^ T.1 - 1) ∧ (zTs C ≠ [])) ∨ (k = 1 ∧ C9 = C ∧ (¬ (zTs C ≠ [] ∧ inR v (2 * 2 ^ T.1 - 1) = true)))) (hm : (k2 = 1 ∧ ¬ (dEs D ≠ [] ∧ inR v (2 * 2 ^ (eTr Ep).1 - 1) = true)) ∨ (k2 = 0 ∧ dEs D ≠ [] ∧ ∃ i : Nat, v = nI i ∧ i < 2 * 2 ^ (eTr Ep).1 - 1 ∧ x = nI ((eTr Ep).2.2.1 i))) : Al k C9 f k2 x (dT D k2) := by
  have hn := not_congr h.nil
  rcases hk with ⟨k0, i, c, hf, hv, hi, hne⟩ | ⟨k0, c, hne⟩ <;> rcases hm with ⟨m0, hm⟩ | ⟨m0, hm, j, hv2, hj, hb⟩
  · have hT := hT hne
    rw [← hT.1] at hm
    exact absurd ⟨hn.mp hne, inR_y hv hi (nd_n (m := 0) (hI hne)).1⟩ hm
  · have hT := hT hne
    rw [← hT.1] at hj
    have e1 := ix_eq hv hv2 hi hj (nd_n (m := 0) (hI hne)).1 (nd_n (m := 0) (hI hne)).1
    subst e1 c k0 m0
    exact ⟨rfl, fun _ => by rw [hf, hb, hT.2.2.1], h⟩
  · subst c k0 m0; exact Al.x (by decide) h
  · have hT := hT (hn.mpr hm)
    rw [← hT.1] at hj
    exact absurd ⟨hn.mpr hm, inR_y hv2 hj (nd_n (m := 0) (hI (hn.mpr hm))).1⟩ hne
theorem al_cover (h : Inv C D) (hI : zTs C ≠ [] → TrI T) (hT : zTs C ≠ [] → TrQ (zSs C) (dSs D) T (eTr Ep)) (hk : (k = 0 ∧ ∃ (i : Nat), C9 = C ∧ (f = (nI ((cov T i).length)).toInt64) ∧ (v = nI i) ∧ (i < 2 * 2 ^ T.1 - 1) ∧ (zTs C ≠ [])) ∨ (k = 1 ∧ C9 = C ∧ (¬ (zTs C ≠ [] ∧ inR v (2 * 2 ^ T.1 - 1) = true)))) (hm : (k2 = 1 ∧ ¬ (dEs D ≠ [] ∧ inR v (2 * 2 ^ (eTr Ep).1 - 1) = true)) ∨ (k2 = 0 ∧ dEs D ≠ [] ∧ ∃ i : Nat, v = nI i ∧ i < 2 * 2 ^ (eTr Ep).1 - 1 ∧ x = nI (cov (eTr Ep) i).length)) : Al k C9 f k2 x (dT D k2) := by
  have hn := not_congr h.nil
  rcases hk with ⟨k0, i, c, hf, hv, hi, hne⟩ | ⟨k0, c, hne⟩ <;> rcases hm with ⟨m0, hm⟩ | ⟨m0, hm, j, hv2, hj, hb⟩
  · have hT := hT hne
    rw [← hT.1] at hm
    exact absurd ⟨hn.mp hne, inR_y hv hi (nd_n (m := 0) (hI hne)).1⟩ hm
  · have hT := hT hne
    rw [← hT.1] at hj
    have e1 := ix_eq hv hv2 hi hj (nd_n (m := 0) (hI hne)).1 (nd_n (m := 0) (hI hne)).1
    subst e1 c k0 m0
    exact ⟨rfl, fun _ => by rw [hf, hb, hT.cov], h⟩
  · subst c k0 m0; exact Al.x (by decide) h
  · have hT := hT (hn.mpr hm)
    rw [← hT.1] at hj
    exact absurd ⟨hn.mpr hm, inR_y hv2 hj (nd_n (m := 0) (hI (hn.mpr hm))).1⟩ hne
theorem al_coverAt (h : Inv C D) (hI : zTs C ≠ [] → TrI T) (hT : zTs C ≠ [] → TrQ (zSs C) (dSs D) T (eTr Ep)) (hcl : ∀ n, (cov T n).length ≤ 1000) (hk : (k = 0 ∧ ∃ (i j n : Nat), C9 = C ∧ (f = (nI n).toInt64) ∧ (v = nI i) ∧ (i < 2 * 2 ^ T.1 - 1) ∧ (zTs C ≠ []) ∧ (u = nI j) ∧ ((cov T i)[j]? = some n)) ∨ (k = 1 ∧ C9 = C ∧ (¬ (zTs C ≠ [] ∧ inR v (2 * 2 ^ T.1 - 1) = true))) ∨ (k = 2 ∧ C9 = C ∧ (∃ i : Nat, v = nI i ∧ i < 2 * 2 ^ T.1 - 1 ∧ zTs C ≠ [] ∧ ¬ inR u (cov T i).length = true))) (hm : (k2 = 1 ∧ ¬ (dEs D ≠ [] ∧ inR v (2 * 2 ^ (eTr Ep).1 - 1) = true)) ∨ (dEs D ≠ [] ∧ ∃ i : Nat, v = nI i ∧ i < 2 * 2 ^ (eTr Ep).1 - 1 ∧ ((k2 = 2 ∧ ¬ inR u (cov (eTr Ep) i).length = true) ∨ (k2 = 0 ∧ ∃ j n : Nat, u = nI j ∧ (cov (eTr Ep) i)[j]? = some n ∧ x = nI n)))) : Al k C9 f k2 x (dT D k2) := by
  have hn := not_congr h.nil
  rcases hk with ⟨k0, i, j, n, c, hf, hv, hi, hne, hu, hj⟩ | ⟨k0, c, hne⟩ | ⟨k0, c, i, hv, hi, hne, hu⟩
  · have hT := hT hne
    have hb := (nd_n (m := 0) (hI hne)).1
    rcases hm with ⟨m0, hm⟩ | ⟨hm, i2, hv2, hi2, w⟩
    · rw [← hT.1] at hm
      exact absurd ⟨hn.mp hne, inR_y hv hi hb⟩ hm
    · rw [← hT.1] at hi2
      have e1 := ix_eq hv hv2 hi hi2 hb hb
      subst e1
      rw [← hT.cov] at w
      rcases w with ⟨m0, w⟩ | ⟨m0, j2, n2, hu2, hj2, hx⟩
      · exact absurd (inR_y hu (get_lt2 hj) (hcl _)) w
      · have e2 := ix_eq hu hu2 (get_lt2 hj) (get_lt2 hj2) (hcl _) (hcl _)
        subst e2
        rw [hj] at hj2; cases hj2
        subst c k0 m0
        exact ⟨rfl, fun _ => by rw [hf, hx], h⟩
  · rcases hm with ⟨m0, hm⟩ | ⟨hm, i2, hv2, hi2, w⟩
    · subst c k0 m0; exact Al.x (by decide) h
    · have hne2 := hn.mpr hm
      rw [← (hT hne2).1] at hi2
      exact absurd ⟨hne2, inR_y hv2 hi2 (nd_n (m := 0) (hI hne2)).1⟩ hne
  · have hT := hT hne
    have hb := (nd_n (m := 0) (hI hne)).1
    rcases hm with ⟨m0, hm⟩ | ⟨hm, i2, hv2, hi2, w⟩
    · rw [← hT.1] at hm
      exact absurd ⟨hn.mp hne, inR_y hv hi hb⟩ hm
    · rw [← hT.1] at hi2
      have e1 := ix_eq hv hv2 hi hi2 hb hb
      subst e1
      rw [← hT.cov] at w
      rcases w with ⟨m0, w⟩ | ⟨m0, j2, n2, hu2, hj2, hx⟩
      · subst c k0 m0; exact Al.x (by decide) h
      · exact absurd (inR_y hu2 (get_lt2 hj2) (hcl _)) hu
theorem al_personAt (h : Inv C D) (hI : zTs C ≠ [] → TrI T) (hT : zTs C ≠ [] → TrQ (zSs C) (dSs D) T (eTr Ep)) (hk : (k = 0 ∧ ∃ (i p : Nat), C9 = C ∧ (f = (nI p).toInt64) ∧ (v = nI i) ∧ (i < 2 ^ T.1) ∧ (zTs C ≠ []) ∧ (T.2.2.2 i = some p)) ∨ (k = 1 ∧ C9 = C ∧ (¬ (zTs C ≠ [] ∧ inR v (2 ^ T.1) = true))) ∨ (k = 2 ∧ C9 = C ∧ (∃ i : Nat, v = nI i ∧ i < 2 ^ T.1 ∧ zTs C ≠ [] ∧ T.2.2.2 i = none))) (hm : (k2 = 1 ∧ ¬ (dEs D ≠ [] ∧ inR v (2 ^ (eTr Ep).1) = true)) ∨ (dEs D ≠ [] ∧ ∃ i : Nat, v = nI i ∧ i < 2 ^ (eTr Ep).1 ∧ ((k2 = 2 ∧ (eTr Ep).2.1 (2 * i) = none) ∨ (k2 = 0 ∧ ¬ (eTr Ep).2.1 (2 * i) = none ∧ x = oI ((eTr Ep).2.2.2 i))))) : Al k C9 f k2 x (dT D k2) := by
  have hn := not_congr h.nil
  rcases hk with ⟨k0, i, p, c, hf, hv, hi, hne, hp⟩ | ⟨k0, c, hne⟩ | ⟨k0, c, i, hv, hi, hne, hp⟩
  · have hT := hT hne
    have hb := (nd_n (m := 0) (hI hne)).2
    rcases hm with ⟨m0, hm⟩ | ⟨hm, i2, hv2, hi2, w⟩
    · rw [← hT.1] at hm
      exact absurd ⟨hn.mp hne, inR_y hv hi hb⟩ hm
    · rw [← hT.1] at hi2
      have e1 := ix_eq hv hv2 hi hi2 hb hb
      subst e1
      rw [← (hT.2.1 _).no, ← (hI hne).2.1, ← hT.2.2.2, hp] at w
      rcases w with ⟨m0, w⟩ | ⟨m0, -, hx⟩
      · cases w
      · subst c k0 m0
        exact ⟨rfl, fun _ => by rw [hf, hx]; rfl, h⟩
  · rcases hm with ⟨m0, hm⟩ | ⟨hm, i2, hv2, hi2, w⟩
    · subst c k0 m0; exact Al.x (by decide) h
    · have hne2 := hn.mpr hm
      rw [← (hT hne2).1] at hi2
      exact absurd ⟨hne2, inR_y hv2 hi2 (nd_n (m := 0) (hI hne2)).2⟩ hne
  · have hT := hT hne
    have hb := (nd_n (m := 0) (hI hne)).2
    rcases hm with ⟨m0, hm⟩ | ⟨hm, i2, hv2, hi2, w⟩
    · rw [← hT.1] at hm
      exact absurd ⟨hn.mp hne, inR_y hv hi hb⟩ hm
    · rw [← hT.1] at hi2
      have e1 := ix_eq hv hv2 hi hi2 hb hb
      subst e1
      rw [← (hT.2.1 _).no, ← (hI hne).2.1, hp] at w
      rcases w with ⟨m0, w⟩ | ⟨m0, w, hx⟩
      · subst c k0 m0; exact Al.x (by decide) h
      · exact absurd rfl w
end
