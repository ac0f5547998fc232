set_option maxRecDepth 100000
/-! ===== what holds of both sides between two calls ===== -/
/-- names of the secrets along the committer's way -/
def pthN (T : TrS) (c : Nat) (x : Nm) : Nat → Nm
  | 0 => x
  | m + 1 => if T.2.1 (nab c (m + 1)) = none then pthN T c x m else n1 (pthN T c x m) 2
/-- an epoch's secrets; x is the name of its secret -/
def EpS (ss tt : List Sec) (T : TrS) (s : StS) (E : MeS) (x : Nm) : Prop := At ss s.2.2.1 x ∧ At tt (eGo E) (n1 x 5) ∧ At tt (eKy E) (n1 x 6) ∧ (∀ l, T.2.2.2 l = none → eCh E l = none) ∧ ∀ l, T.2.2.2 l ≠ none → ∃ c, eCh E l = some c ∧ At tt c (n1 x (100 + l))
/-- the secrets of a step -/
def StP (ss : List Sec) (x0 : Nm) (T : TrS) (s : StS) (x : Nm) : Prop := ∃ y b bf, (∀ m z, m ≤ T.1 → T.2.1 (nab s.1 m) = some z → At ss z (pthN T s.1 y m)) ∧ n1 (pthN T s.1 y T.1) 2 ∈ nms ss ∧ s.2.1 = some bf ∧ At ss bf b ∧ b = n2 (n1 x0 5) (n1 (pthN T s.1 y T.1) 2) 3 ∧ x = n1 b 4
/-- a node whose secret a member at leaf l has -/
def StC (T : TrS) (c l u : Nat) : Prop := u = 2 * l ∨ (0 < lev u ∧ cvr u l = true ∧ ¬ hsB (T.2.2.1 u) l = true ∧ ¬ cvr u c = true ∧ u < 2 * 2 ^ T.1 - 1)
/-- the boxes of a step -/
def StB (ss : List Sec) (bx : List (Nat × Nat)) (T : TrS) (s : StS) (E : MeS) : Prop := ∀ m, m < T.1 → ((∃ l, T.2.2.2 l ≠ none ∧ cvr (nab s.1 (m + 1)) l = true ∧ ¬ cvr (nab s.1 m) l = true) → T.2.1 (nab s.1 (m + 1)) ≠ none) ∧ ∀ y, T.2.1 (nab s.1 (m + 1)) = some y → ∃ bg en, s.2.2.2.1 (nab s.1 (m + 1)) = some bg ∧ s.2.2.2.2 (nab s.1 (m + 1)) = some en ∧ bg ≤ en ∧ en ≤ bx.length ∧ (∀ (j : Nat) (p : Nat × Nat), bg ≤ j → j < en → bx[j]? = some p → p.2 = y) ∧ ∀ l, T.2.2.2 l ≠ none → ePk E l = none → cvr (nab s.1 (m + 1)) l = true → ¬ cvr (nab s.1 m) l = true → ∃ u x q o z, StC T s.1 l u ∧ T.2.1 u = some x ∧ bg ≤ q ∧ q < en ∧ bx[q]? = some (o, y) ∧ At ss x z ∧ At ss o (n1 z 1)
/-- from the tree before to the tree of a step -/
def StE (T0 T : TrS) (s : StS) (E : MeS) : Prop :=
  s.1 < 2 ^ T.1 ∧ (∃ p, T0.2.2.2 s.1 = some p ∧ T.2.2.2 s.1 = some p) ∧
  (∀ n, 0 < lev n → n < 2 * 2 ^ T.1 - 1 → ¬ cvr n s.1 = true → T.2.1 n ≠ none → T.2.1 n = T0.2.1 n ∧ ∀ l p, T0.2.2.2 l = some p → T.2.2.2 l = some p → hsB (T.2.2.1 n) l = hsB (T0.2.2.1 n) l) ∧
  (∀ n, cvr n s.1 = true → T.2.2.1 n = 0) ∧
  (∀ l, ePk E l ≠ none → ∀ n, 0 < lev n → cvr n l = true → ¬ cvr n s.1 = true → T.2.1 n ≠ none → hsB (T.2.2.1 n) l = true) ∧
  (∀ l p, T0.2.2.2 l = some p → eRm E l = true → ∀ m, T.2.2.2 m ≠ some p) ∧
  (∀ l p, T0.2.2.2 l = some p → ¬ eRm E l = true → T.2.2.2 l = some p) ∧
  (∀ l p, T.2.2.2 l = some p → ePk E l = none → T0.2.2.2 l = some p) ∧
  (∀ l, ePk E l ≠ none → l ≠ s.1) ∧
  (∀ l p, ePk E l ≠ none → T.2.2.2 l = some p → ∀ m, T0.2.2.2 m ≠ some p) ∧
  ∀ n, eWy E n = true ↔ ∃ m, m < T.1 ∧ n = nab s.1 (m + 1) ∧ T.2.1 n ≠ none
/-- epochs -/
def EpQ (C : KsS) (D : MdS) (k : Nat) (T : TrS) (E : MeS) : Prop := eNo E = k ∧ (TrI T ∧ ∀ l p, T.2.2.2 l = some p → p < (zPs C).length) ∧ TrQ (zSs C) (dSs D) T (eTr E) ∧ ∃ s x, (zSt C)[k]? = some s ∧ EpS (zSs C) (dSs D) T s E x ∧ ∀ e T0 s0 E0, k = e + 1 → (zTs C)[e]? = some T0 → (zSt C)[e]? = some s0 → (dEs D)[e]? = some E0 → ∃ x0, At (zSs C) s0.2.2.1 x0 ∧ StP (zSs C) x0 T s x ∧ StB (zSs C) (zBx C) T s E ∧ StE T0 T s E
/-- packages by epochs -/
def PkE (C : KsS) (D : MdS) : Prop := (∀ e E l k, (dEs D)[e]? = some E → ePk E l = some k → ∃ q T, (zKs C)[k]? = some q ∧ (zTs C)[e]? = some T ∧ q.2.2.2.1 = true ∧ q.2.2.2.2.1 = some e ∧ T.2.2.2 l = some q.1 ∧ T.2.1 (2 * l) = some q.2.1 ∧ 0 < e) ∧
  (∀ k q, (zKs C)[k]? = some q → q.2.2.2.2.2 = true → ∃ e E l r, q.2.2.2.2.1 = some e ∧ (dEs D)[e]? = some E ∧ ePk E l = some k ∧ (zPs C)[q.1]? = some r ∧ pEp r = none ∧ ∀ (j : Nat) (T : TrS), e ≤ j → (zTs C)[j]? = some T → T.2.2.2 l = some q.1) ∧
  (∀ (k : Nat) (q : PkS) (k2 : Nat) (q2 : PkS), (zKs C)[k]? = some q → (zKs C)[k2]? = some q2 → q.2.2.2.2.2 = true → q2.2.2.2.2.2 = true → q.1 = q2.1 → k = k2) ∧ ∀ q ∈ zKs C, q.1 < (zPs C).length
/-- proposals -/
def PrQ (C : KsS) (D : MdS) (q : PrS) (p : MrS) : Prop := ∃ T, (zTs C)[(zTs C).length - 1]? = some T ∧ p.2.1 < (zPs C).length ∧ (
  (q.1 = 0 ∧ p.1 = 97 ∧ p.2.2 = q.2.1 ∧ ∃ k r, (zKs C)[q.2.1]? = some k ∧ ¬ k.2.2.2.1 = true ∧ (zPs C)[k.1]? = some r ∧ pEp r = none ∧ ∀ l, T.2.2.2 l ≠ some k.1) ∨
  (q.1 = 1 ∧ p.1 = 114 ∧ p.2.2 = q.2.1 ∧ ∃ i, T.2.2.2 q.2.1 = some i) ∨
  (q.1 = 2 ∧ p.1 = 110 ∧ Nq (zSs C) (dSs D) q.2.2 p.2.2 ∧ ∃ r, (zPs C)[p.2.1]? = some r ∧ isF (zTs C).length (pEp r) = true ∧ pLf r = q.2.1 ∧ pRn r = some q.2.2))
def PrD (C : KsS) : Prop := (∀ (j k : Nat) (q p : PrS), j < k → (zRs C)[j]? = some q → (zRs C)[k]? = some p → q.1 = 1 → p.1 = 1 → q.2.1 ≠ p.2.1) ∧ (∀ (j k : Nat) (q p : PrS), j < k → (zRs C)[j]? = some q → (zRs C)[k]? = some p → q.1 = 2 → p.1 = 2 → q.2.1 ≠ p.2.1) ∧ ∀ (j k : Nat) (q p : PrS) (a b : PkS), j < k → (zRs C)[j]? = some q → (zRs C)[k]? = some p → q.1 = 0 → p.1 = 0 → (zKs C)[q.2.1]? = some a → (zKs C)[p.2.1]? = some b → a.1 ≠ b.1
/-- renewals -/
def RnQ (C : KsS) (i : Nat) (r : PeS) : Prop := ∀ e, pEp r = some e → (∀ k T1 T2, e ≤ k → (zTs C)[k]? = some T1 → (zTs C)[k + 1]? = some T2 → T2.2.2.2 (pLf r) = some i → T2.2.1 (2 * pLf r) = T1.2.1 (2 * pLf r) ∨ (k = e ∧ T2.2.1 (2 * pLf r) = pRn r)) ∧ (e + 1 = (zTs C).length → ∀ x, pRn r = some x ↔ (2, pLf r, x) ∈ zRs C)
/-- who has not joined yet has renewed nothing -/
def RnO (C : KsS) : Prop := ∀ (j : Nat) (q : PkS) (a k : Nat) (T1 T2 : TrS) (l : Nat), (zKs C)[j]? = some q → q.2.2.2.2.2 = true → q.2.2.2.2.1 = some a → a ≤ k → (zTs C)[k]? = some T1 → (zTs C)[k + 1]? = some T2 → T1.2.2.2 l = some q.1 → T2.2.2.2 l = some q.1 → T2.2.1 (2 * l) = T1.2.1 (2 * l)
/-- who committed has gone on -/
def CmQ (C : KsS) : Prop := ∀ (i : Nat) (r : PeS) (k : Nat) (s : StS) (T : TrS), (zPs C)[i]? = some r → (zSt C)[k]? = some s → (zTs C)[k]? = some T → T.2.2.2 s.1 = some i → (∀ e, pEp r = some e → k ≤ e) ∧ ∀ (j : Nat) (q : PkS) (a : Nat), (zKs C)[j]? = some q → q.2.2.2.2.2 = true → q.1 = i → q.2.2.2.2.1 = some a → k < a
/-- messages -/
def MsQ (C : KsS) (D : MdS) (k : Nat) (m : MsS) (p : MmS) : Prop := m.1 = p.1 ∧ m.2.1 = p.2.1 ∧ m.2.2.1 = p.2.2.1 ∧ Nq (zSs C) (dSs D) m.2.2.2 p.2.2.2.2 ∧ m.2.2.1 ≤ k ∧ ∃ T, (zTs C)[m.1]? = some T ∧ T.2.2.2 m.2.1 ≠ none
/-- no chain has gone further than there are messages -/
def ChL (C : KsS) (r : PeS) : Prop := ∀ l c, pCh r l = some c → c.2.1 ≤ (zMs C).length
/-- what a person holds it has held -/
def HeE (C : KsS) (r : PeS) : Prop := ∀ x, helP (zKs C) r x → pEv r x = true
/-- THE RELATION -/
def Inv (C : KsS) (D : MdS) : Prop :=
  SqS (zSs C) (dSs D) ∧ SsOk (dSs D) ∧ zZz C = dZz D ∧ zBn C = dBn D ∧ dCm D = (zTs C).length - 1 ∧ Bq (zSs C) (dSs D) (zBx C) (dBx D) ∧
  LQ (fun _ => PkQ (zSs C) (dSs D)) (zKs C) (dKs D) ∧ LQ (fun _ => PrQ C D) (zRs C) (dRs D) ∧ LQ (EpQ C D) (zTs C) (dEs D) ∧ (zSt C).length = (zTs C).length ∧
  LQ (fun i r q => PeQ (zSs C) (dSs D) (zTs C) (dEs D) (dKs D) i r q ∧ RnQ C i r ∧ ChL C r ∧ HeE C r) (zPs C) (dPs D) ∧ LQ (MsQ C D) (zMs C) (dMs D) ∧
  Sq (zSs C) (dSs D) (fun x => zSo C x = true) (fun y => y ∈ dSo D) ∧ (dSo D).Nodup ∧ PkE C D ∧ PrD C ∧ RnO C ∧ CmQ C

def evOk (ss tt : List Sec) (Ks : List PkS) (r : PeS) (q : MpS) : Prop := (mEv q).Nodup ∧ ∃ P0 : Nat → Prop, Sq ss tt P0 (fun y => y ∈ mEv q) ∧ ∀ x, pEv r x = true ↔ P0 x ∨ helP Ks r x
theorem evOk.old {ss tt : List Sec} {Ks : List PkS} {r : PeS} {q : MpS} (h : Sq ss tt (fun x => pEv r x = true) (fun y => y ∈ mEv q)) (hn : (mEv q).Nodup) (he : ∀ x, helP Ks r x → pEv r x = true) : evOk ss tt Ks r q :=
  ⟨hn, _, h, fun x => ⟨Or.inl, fun z => z.elim id (he x)⟩⟩
theorem hel_ev (Ms : List MkS) (Es : List MeS) (i : Nat) (q : MpS) (E : List Nat) (x : Nat) : helM Ms Es i (evS q E) x ↔ helM Ms Es i q x := Iff.rfl
theorem PeW.ev {ss tt : List Sec} {Ts : List TrS} {Es : List MeS} {Ks : List MkS} {i : Nat} {r : PeS} {q : MpS} (h : PeW ss tt Ts Es Ks i r q) (E : List Nat) : PeW ss tt Ts Es Ks i r (evS q E) := h
/-- all have noted -/
theorem nt_q {ss tt : List Sec} {Ts : List TrS} {Es : List MeS} {Ks : List PkS} {Ms : List MkS} {Ps : List PeS} {Ns Qs : List MpS} (hK : LQ (fun _ => PkQ ss tt) Ks Ms) (hT : ∀ T ∈ Ts, TrI T) (hN : NtR Ms Es Ns Qs Ns.length) (h : LQ (fun j r q => PeW ss tt Ts Es Ms j r q ∧ evOk ss tt Ks r q) Ps Ns) : LQ (fun j r q => PeQ ss tt Ts Es Ms j r q ∧ ∀ x, helP Ks r x → pEv r x = true) Ps Qs := by
  refine ⟨by rw [h.1, hN.1], fun j r q hr hq => ?_⟩
  obtain ⟨q0, hq0, hw, hnd, P0, h1, h2⟩ := h.l hr
  obtain ⟨E, hE, he, -⟩ := hN.2 j q0 hq0
  rw [hq] at hE
  have hE := Option.some.inj hE
  obtain ⟨e1, e2⟩ := he (get_lt2 hq0)
  subst hE
  refine ⟨⟨hw.ev E, ?_, e2⟩, fun x hx => (h2 x).mpr (Or.inr hx)⟩
  exact (h1.or (hel_q hK hT hw)).cg h2 e1
theorem Sq.lt {ss tt : List Sec} {P Q : Nat → Prop} (h : Sq ss tt P Q) {y : Nat} (hy : Q y) : y < tt.length := by
  obtain ⟨x, -, hq⟩ := h.2 y hy
  exact hq.lt.2
theorem Sq.ltl {ss tt : List Sec} {P Q : Nat → Prop} (h : Sq ss tt P Q) {y : Nat} (hy : P y) : y < ss.length := by
  obtain ⟨x, -, hq⟩ := h.1 y hy
  exact hq.lt.1
theorem ntb_of {ss tt : List Sec} {Ts : List TrS} {Es : List MeS} {Ks : List PkS} {Ms : List MkS} {Ps : List PeS} {Ns : List MpS} {Q : Nat} (hK : LQ (fun _ => PkQ ss tt) Ks Ms) (hT : ∀ T ∈ Ts, TrI T) (h : LQ (fun j r q => PeW ss tt Ts Es Ms j r q ∧ evOk ss tt Ks r q) Ps Ns) (hc : ∀ r ∈ Ps, ∀ l c, pCh r l = some c → c.2.1 ≤ Q) : NtB Ms Es Ns tt.length Q := by
  intro j q hq
  obtain ⟨r, hr, hw, hnd, P0, h1, h2⟩ := h.r hq
  have hh := hel_q hK hT hw
  refine ⟨fun e he => ?_, fun l d hd => ?_, fun x hx => hh.lt hx, hnd, fun x hx => h1.lt hx⟩
  · obtain ⟨T, Ep, -, a2, -⟩ := hw.2.2.2.2.2 e (by rw [← hw.2.1]; exact he)
    exact get_lt2 a2
  · cases e : pEp r with
    | none => rw [(hw.2.2.2.2.1 e).2.2.2.1 l] at hd; cases hd
    | some ep =>
      obtain ⟨T, Ep, a1, a2, a3, a4, a5, a6, a7, a8, a9, b1, b2, b3⟩ := hw.2.2.2.2.2 ep e
      rcases b2 l with ⟨-, z⟩ | ⟨c, d2, z1, z2, z3⟩
      · rw [hd] at z; cases z
      · rw [hd] at z2; cases z2
        have h3 := z3.2.2.2.2.2.1
        have h4 := hc r (List.mem_of_getElem? hr) l c z1
        have h5 := z3.2.1
        omega
