set_option maxRecDepth 100000
/-! ===== who may do what: alike on both sides ===== -/
section
variable {C : KsS} {D : MdS} {i : Nat} {r : PeS} {q : MpS}
theorem Inv.pw (h : Inv C D) (hr : (zPs C)[i]? = some r) (hq : (dPs D)[i]? = some q) : PeW (zSs C) (dSs D) (zTs C) (dEs D) (dKs D) i r q := (h.2.2.2.2.2.2.2.2.2.2.1.2 i r q hr hq).1.1
theorem Inv.ep_lt (h : Inv C D) (hr : (zPs C)[i]? = some r) {e : Nat} (he : pEp r = some e) : e < (zTs C).length := by
  obtain ⟨q, hq, ⟨hw, -⟩, -⟩ := h.2.2.2.2.2.2.2.2.2.2.1.l hr
  obtain ⟨T, Ep, a1, -⟩ := hw.2.2.2.2.2 e he
  exact get_lt2 a1
theorem go_can (h : Inv C D) (hr : (zPs C)[i]? = some r) (hq : (dPs D)[i]? = some q) : (∃ e, pEp r = some e ∧ e + 1 < (zTs C).length) ↔ ¬ mEp q = none ∧ ¬ isF (dEs D).length (mEp q) = true := by
  rw [h.isF hr hq, (h.pw hr hq).2.1]
  constructor
  · rintro ⟨e, he, hl⟩
    rw [he]
    exact ⟨by simp, isF_some hl⟩
  · rintro ⟨h1, h2⟩
    cases he : pEp r with
    | none => exact absurd he h1
    | some e =>
      refine ⟨e, rfl, ?_⟩
      have := h.ep_lt hr he
      rcases Nat.lt_or_ge (e + 1) (zTs C).length with z | z
      · exact z
      · exfalso
        rw [he] at h2
        refine h2 ?_
        unfold isF
        simp; omega
theorem jn_can (h : Inv C D) (hr : (zPs C)[i]? = some r) (hq : (dPs D)[i]? = some q) : opI (zKs C) (pPk r) ≠ none ↔ ∃ (e : Nat) (Ep : MeS) (l : Nat), (dEs D)[e]? = some Ep ∧ l < 16 ∧ jnM D i Ep l := by
  constructor
  · intro z
    cases e : opI (zKs C) (pPk r) with
    | none => exact absurd e z
    | some kk =>
      obtain ⟨pk, qm, nx, E, T, l, a1, a2, a3, a4, a5, a6, a7, a8, a9, b1, b2, b3, b4, b5, b6, -⟩ := pk_op h hr e
      exact ⟨nx, E, l, b2, (h.tr T (List.mem_of_getElem? b3)).leaf b5, kk, qm, b4, a2, a6, a7⟩
  · rintro ⟨e, Ep, l, hE, hl, k, qm, h1, h2, h3, h4⟩ z
    obtain ⟨q2, T2, v1, v2, v3, -⟩ := h.2.2.2.2.2.2.2.2.2.2.2.2.2.2.1.1 e Ep l k hE h1
    have hPQ := h.kk.2 k q2 qm v1 h2
    have hm : k ∈ pPk r := by
      rw [(h.pw hr hq).2.2.2.1]
      exact pksM_m.mpr ⟨qm, h2, h3, h4⟩
    refine opn_no z hm v1 ?_
    rw [hPQ.2.2.2.2.1, ← hPQ.2.2.2.1, v3]
    cases e9 : qm.2.2.2.2 with
    | true => exact absurd e9 h4
    | false => rfl
theorem cm_can (h : Inv C D) (hr : (zPs C)[i]? = some r) (hq : (dPs D)[i]? = some q) : (isF (zTs C).length (pEp r) = true ∧ ¬ rmB (zRs C) (pLf r) = true) ↔ cmCanM D q := by
  unfold cmCanM
  rw [h.isF hr hq, h.rmB]
  refine and_congr_right fun hf => ?_
  obtain ⟨e, he, -⟩ := isF_ln hf
  obtain ⟨T, Ep, -, -, -, a4, -⟩ := (h.pw hr hq).2.2.2.2.2 e he
  rw [a4]
theorem ep_no (h : Inv C D) (hr : (zPs C)[i]? = some r) (hq : (dPs D)[i]? = some q) : pEp r = none ↔ mEp q = none := by rw [(h.pw hr hq).2.1]
theorem pk_30 (h : Inv C D) (n : NmB C) : ∀ r ∈ zPs C, (pPk r).length ≤ 30 := by
  intro r hr
  obtain ⟨k, hk⟩ := List.getElem?_of_mem hr
  obtain ⟨q, hq, ⟨hw, -⟩, -⟩ := h.2.2.2.2.2.2.2.2.2.2.1.l hk
  rw [hw.2.2.2.1]
  unfold pksM
  have h1 := List.length_filter_le (fun k => match (dKs D)[k]? with | none => false | some q => q.1 == pNo r && !q.2.2.2.2) (List.range (dKs D).length)
  have h2 := List.length_filter_le (fun k_1 => match (dKs D)[k_1]? with | none => false | some q => q.1 == k && !q.2.2.2.2) (List.range (dKs D).length)
  rw [List.length_range] at h2
  have h3 := h.ln.2.1
  have h4 := n.2.2.2.1
  exact Nat.le_trans h2 (by omega)
/-- a person on both sides -/
theorem Inv.pe2 (h : Inv C D) (hr : (zPs C)[i]? = some r) : ∃ q, (dPs D)[i]? = some q := by
  obtain ⟨q, hq, -⟩ := h.2.2.2.2.2.2.2.2.2.2.1.l hr
  exact ⟨q, hq⟩
end
/-- nothing is there yet -/
theorem Inv.start : Inv (([], [], nI 1, [], [], [], [], [], [], fun _ => false, 0) : KsS) (([], [], [], [], [], [], [], [], 0, nI 1, 0, 0) : MdS) := by
  refine ⟨⟨ScOk_0, ScOk_0, rfl, fun n => Iff.rfl⟩, ⟨fun d hd => (by cases hd), List.nodup_nil⟩, rfl, rfl, rfl, ⟨rfl, fun k p q hp => (by cases hp)⟩, LQ.nil, LQ.nil, LQ.nil, rfl, LQ.nil, LQ.nil, Sq.no (fun i z => Bool.noConfusion z) (fun j z => by cases z), List.nodup_nil, ⟨fun e E l k hE => (by cases hE), fun k p hp => (by cases hp), fun k p k2 p2 hp => (by cases hp), fun p hp => (by cases hp)⟩, ⟨fun j k q p _ hq => (by cases hq), fun j k q p _ hq => (by cases hq), fun j k q p a b _ hq => (by cases hq)⟩, fun j p a k T1 T2 l hp => (by cases hp), fun i r k s T hr => (by cases hr)⟩
