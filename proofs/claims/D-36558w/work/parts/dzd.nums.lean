set_option maxRecDepth 100000
/-! ===== numbers: what the walks want of them ===== -/
def NmB (C : KsS) : Prop := (zSs C).length ≤ 900 ∧ (zBx C).length ≤ 1900 ∧ (zPs C).length ≤ 10 ∧ (zKs C).length ≤ 24 ∧ (zRs C).length ≤ 8 ∧ (zTs C).length ≤ 24 ∧ (zMs C).length ≤ 40 ∧ zBn C ≤ 1900
theorem ksb_of {C : KsS} {D : MdS} (h : Inv C D) (n : NmB C) : KsB C := by
  obtain ⟨n1_, n2_, n3_, n4_, n5_, n6_, n7_, n8_⟩ := n
  refine ⟨n1_, n2_, n3_, n4_, n5_, n6_, h.2.2.2.2.2.2.2.2.2.1, n7_, n8_, fun x hx => h.so.ltl hx, fun i r hr => ?_⟩
  obtain ⟨q, hq, ⟨hw, hev, -⟩, -⟩ := h.2.2.2.2.2.2.2.2.2.2.1.l hr
  exact ⟨hw.1, h.ids hr, fun x hx => (hel_q h.kk h.tr hw).ltl hx, fun x hx => hev.ltl hx⟩
theorem mdb_of {C : KsS} {D : MdS} (h : Inv C D) (n : NmB C) : MdB D := by
  obtain ⟨n1_, n2_, n3_, n4_, n5_, n6_, n7_, n8_⟩ := n
  obtain ⟨l1, l2, l3, l4, l5⟩ := h.ln
  have l6 := h.1.len
  have l7 := h.bq.1
  have l8 := h.2.2.2.1
  have l9 := h.2.2.2.2.1
  exact ⟨by omega, by omega, by omega, by omega, by omega, by omega, by omega, by omega, by omega⟩
theorem mdi_of {C : KsS} {D : MdS} (h : Inv C D) : MdI D := by
  refine ⟨h.2.1, fun p hp => ?_, fun x hx => h.so.lt hx, h.2.2.2.2.2.2.2.2.2.2.2.2.2.1, ?_⟩
  · obtain ⟨k, hk⟩ := List.getElem?_of_mem hp
    obtain ⟨q, hq⟩ := get_ex (xs := zBx C) (i := k) (by have := get_lt2 hk; have := h.bq.1; omega)
    obtain ⟨a, b⟩ := h.bq.2 k q p hq hk
    exact ⟨a.lt.2, b.lt.2⟩
  · refine ntb_of h.kk h.tr (h.2.2.2.2.2.2.2.2.2.2.1.imp fun k r q _ _ z => ⟨z.1.1, evOk.old z.1.2.1 z.1.2.2 z.2.2.2⟩) fun r hr l c hc => ?_
    rw [← h.ms.1]
    obtain ⟨k, hk⟩ := List.getElem?_of_mem hr
    obtain ⟨q, -, z⟩ := h.2.2.2.2.2.2.2.2.2.2.1.l hk
    exact z.2.2.1 l c hc
theorem rsb_of {C : KsS} {D : MdS} (h : Inv C D) (n : NmB C) : RsB D := by
  obtain ⟨n1_, n2_, n3_, n4_, n5_, n6_, n7_, n8_⟩ := n
  obtain ⟨l1, l2, l3, l4, l5⟩ := h.ln
  have l6 := h.1.len
  have key : ∀ q ∈ dRs D, (q.1 < 200 ∧ q.2.1 < 16 ∧ q.2.2 < 1000) ∧ (q.1 = 97 → q.2.2 < (dKs D).length) := by
    intro q hq
    obtain ⟨k, hk⟩ := List.getElem?_of_mem hq
    obtain ⟨p, hp, T, hT, hlt, w⟩ := h.2.2.2.2.2.2.2.1.r hk
    rcases w with ⟨w1, w2, w3, y, s, w4, -⟩ | ⟨w1, w2, w3, i, w4⟩ | ⟨w1, w2, w3, -⟩
    · have := get_lt2 w4
      exact ⟨⟨by omega, by omega, by omega⟩, fun _ => by omega⟩
    · have := (h.tr T (List.mem_of_getElem? hT)).leaf w4
      exact ⟨⟨by omega, by omega, by omega⟩, fun z => by omega⟩
    · have := w3.lt.2
      exact ⟨⟨by omega, by omega, by omega⟩, fun z => by omega⟩
  exact ⟨fun q hq => (key q hq).1, fun q hq => (key q hq).2⟩
/-- what else the walks want -/
theorem Inv.hrb {C : KsS} {D : MdS} (h : Inv C D) (n : NmB C) : ∀ r ∈ zRs C, r.2.1 < 1000 := by
  intro r hr
  obtain ⟨n1_, n2_, n3_, n4_, n5_, n6_, n7_, n8_⟩ := n
  obtain ⟨k, hk⟩ := List.getElem?_of_mem hr
  obtain ⟨p, hp, hPQ⟩ := h.2.2.2.2.2.2.2.1.l hk
  obtain ⟨T, hT, hlt, w⟩ := id hPQ
  rcases w with ⟨w1, w2, w3, y, s, w4, -⟩ | ⟨w1, w2, w3, i, w4⟩ | ⟨w1, -⟩
  · have := get_lt2 w4; omega
  · have := (h.tr T (List.mem_of_getElem? hT)).leaf w4; omega
  · obtain ⟨-, -, s, o, a1, a2, a3, a4, a5, a6, a7⟩ := pr_rn h hT hk hp w1
    have := (h.tr T (List.mem_of_getElem? hT)).leaf a7
    omega
theorem Inv.h16 {C : KsS} {D : MdS} (h : Inv C D) : ∀ Ep ∈ dEs D, ∀ l, 2 ^ (eTr Ep).1 ≤ l → (eTr Ep).2.2.2 l = none := by
  intro Ep hm l hl
  obtain ⟨k, hk⟩ := List.getElem?_of_mem hm
  obtain ⟨T, hT, hQ⟩ := h.2.2.2.2.2.2.2.2.1.r hk
  rw [← hQ.2.2.1.2.2.2, ← hQ.2.2.1.1] at *
  cases e : T.2.2.2 l with
  | none => rfl
  | some p => have := (hQ.2.1.1.2.2.1 l p e).1; omega
theorem Inv.hky2 {C : KsS} {D : MdS} (h : Inv C D) : ∀ (i : Nat) (r : MpS) (e : Nat), (dPs D)[i]? = some r → mEp r = some e → ∃ Ep, (dEs D)[e]? = some Ep ∧ eKy Ep < (dSs D).length := by
  intro i q e hq he
  obtain ⟨r, hr, ⟨hw, -⟩, -⟩ := h.2.2.2.2.2.2.2.2.2.2.1.r hq
  obtain ⟨T, Ep, -, a2, -⟩ := hw.2.2.2.2.2 e (by rw [← hw.2.1]; exact he)
  exact ⟨Ep, a2, h.hekl Ep (List.mem_of_getElem? a2)⟩
theorem Inv.hcx {C : KsS} {D : MdS} (h : Inv C D) : (∀ (i : Nat) (r : PeS) (m : MsS), (zPs C)[i]? = some r → m ∈ zMs C → pEp r = some m.1 → ∃ c, pCh r m.2.1 = some c) ∧ ∀ (i : Nat) (r : MpS) (q : MmS), (dPs D)[i]? = some r → q ∈ dMs D → mEp r = some q.1 → ∃ c : McS, mCh r q.2.1 = some c := by
  constructor
  · intro i r m hr hm he
    obtain ⟨k, hk⟩ := List.getElem?_of_mem hm
    obtain ⟨p, hp, -⟩ := h.ms.l hk
    obtain ⟨q, hq, -⟩ := h.2.2.2.2.2.2.2.2.2.2.1.l hr
    obtain ⟨c, d, e1, -⟩ := rd_hchx h hr hq hk hp he
    exact ⟨c, e1⟩
  · intro i q p hq hp he
    obtain ⟨k, hk⟩ := List.getElem?_of_mem hp
    obtain ⟨m, hm, hMQ⟩ := h.ms.r hk
    obtain ⟨r, hr, ⟨hw, -⟩, -⟩ := h.2.2.2.2.2.2.2.2.2.2.1.r hq
    obtain ⟨c, d, -, e2, -⟩ := rd_hchx h hr hq hm hk (by rw [← hw.2.1, he, hMQ.1])
    exact ⟨d, e2⟩
theorem cov_1000 {T : TrS} (h : TrI T) {n : Nat} (hn : n < 31) : (cov T n).length ≤ 10 := Nat.le_trans (cv_len h _ _ hn rfl) (cnt_10 h _)
