set_option maxRecDepth 100000
/-! ===== welcomes ===== -/
/-- boxes by names -/
def AtB (ss : List Sec) (b : List (Nat × Nat)) (G : List (Nm × Nm)) : Prop := LQ (fun _ p g => At ss p.1 g.1 ∧ At ss p.2 g.2) b G
theorem AtB.up {ss s2 : List Sec} (h : Pf ss s2) {b : List (Nat × Nat)} {G : List (Nm × Nm)} (hb : AtB ss b G) : AtB s2 b G := hb.imp fun k p g _ _ z => ⟨h.at z.1, h.at z.2⟩
theorem AtB.bq {ss tt : List Sec} {b c : List (Nat × Nat)} {G : List (Nm × Nm)} (h : AtB ss b G) (h2 : AtB tt c G) : Bq ss tt b c := by
  refine ⟨by rw [h.1, h2.1], fun k p q hp hq => ?_⟩
  obtain ⟨g, hg, a1, a2⟩ := h.l hp
  obtain ⟨b1, b2⟩ := h2.2 k q g hq hg
  exact ⟨⟨_, a1, b1⟩, ⟨_, a2, b2⟩⟩
theorem Bq.app {ss tt : List Sec} {a b c d : List (Nat × Nat)} (h : Bq ss tt a b) (h2 : Bq ss tt c d) : Bq ss tt (a ++ c) (b ++ d) := by
  obtain ⟨l1, h1⟩ := h
  obtain ⟨l2, h2⟩ := h2
  refine ⟨by rw [List.length_append, List.length_append, l1, l2], fun k p q hp hq => ?_⟩
  rcases Nat.lt_or_ge k a.length with z | z
  · rw [List.getElem?_append_left z] at hp
    rw [List.getElem?_append_left (by omega)] at hq
    exact h1 k p q hp hq
  · rw [List.getElem?_append_right z] at hp
    rw [List.getElem?_append_right (by omega), ← l1] at hq
    exact h2 _ p q hp hq
def gW (pk : Nat → Option Nat) (zn : Nat → Nm) (nb : Nm) (sn : Nat → Nm) (l : Nat) : List (Nm × Nm) := if pk l = none then [] else [(n1 (zn l) 1, nb), (n1 (zn l) 1, sn l)]
def GW (pk : Nat → Option Nat) (zn : Nat → Nm) (nb : Nm) (sn : Nat → Nm) : Nat → List (Nm × Nm)
  | 0 => []
  | k + 1 => GW pk zn nb sn k ++ gW pk zn nb sn k
def cW (pk : Nat → Option Nat) : Nat → Nat
  | 0 => 0
  | k + 1 => cW pk k + (if pk k = none then 0 else 1)
theorem fold_no {α β : Type} {f : β → α → β} : ∀ (l : List α) (b : β), (∀ a ∈ l, ∀ b, f b a = b) → l.foldl f b = b
  | [], _, _ => rfl
  | a :: l, b, h => by
    show l.foldl f (f b a) = b
    rw [h a List.mem_cons_self b]
    exact fold_no l b fun c hc => h c (List.mem_cons_of_mem _ hc)
theorem fold_one {α β : Type} {f : β → α → β} : ∀ (l : List α) (b : β) (x : α), l.Nodup → x ∈ l → (∀ a ∈ l, a ≠ x → ∀ b, f b a = b) → l.foldl f b = f b x
  | [], _, _, _, h, _ => by cases h
  | a :: l, b, x, hn, hx, h => by
    have hn2 := List.nodup_cons.mp hn
    show l.foldl f (f b a) = f b x
    rcases List.mem_cons.mp hx with e | e
    · rw [← e]
      refine fold_no l _ fun c hc d => h c (List.mem_cons_of_mem _ hc) (fun z => hn2.1 ?_) d
      rw [← e, ← z]; exact hc
    · rw [h a List.mem_cons_self (fun z => hn2.1 (by rw [z]; exact e)) b]
      exact fold_one l b x hn2.2 e fun c hc => h c (List.mem_cons_of_mem _ hc)
/-- one welcome: two boxes for a secret -/
theorem wl_two {ss : List Sec} {bx : List (Nat × Nat)} {o j s : Nat} {z nb sn : Nm} (h : ScOk ss) (ho : At ss o z) (hj : At ss j nb) (hs : At ss s sn) : ∃ s2 i, frm ss (o, none, 1) = (s2, i) ∧ frm s2 (o, none, 1) = (s2, i) ∧ ScOk s2 ∧ Pf ss s2 ∧ dVs s2 = dVs ss ∧ s2.length ≤ ss.length + 1 ∧ (∀ n, n ∈ nms s2 ↔ n ∈ nms ss ∨ n = n1 z 1) ∧ AtB s2 [(i, j), (i, s)] [(n1 z 1, nb), (n1 z 1, sn)] ∧ (SsOk ss → o < 1000 → SsOk s2) := by
  obtain ⟨s2, i, e1, a1, a2, a3, a4, a5, a6, a7⟩ := fm_1 h (KN.i1 (l := 1) ho)
  refine ⟨s2, i, e1, frm_s (fnd_1 a1 (a2.at ho) a3), a1, a2, a5, a6, a4, ⟨rfl, fun k p g hp hg => ?_⟩, fun z hz => a7 z ⟨hz, Or.inl (by decide)⟩⟩
  match k, hp, hg with
  | 0, hp, hg => cases hp; cases hg; exact ⟨a3, a2.at hj⟩
  | 1, hp, hg => cases hp; cases hg; exact ⟨a3, a2.at hs⟩
theorem AtB.app {ss : List Sec} {b c : List (Nat × Nat)} {G H : List (Nm × Nm)} (h : AtB ss b G) (h2 : AtB ss c H) : AtB ss (b ++ c) (G ++ H) := by
  obtain ⟨l1, h1⟩ := h
  obtain ⟨l2, h2⟩ := h2
  refine ⟨by rw [List.length_append, List.length_append, l1, l2], fun k p q hp hq => ?_⟩
  rcases Nat.lt_or_ge k b.length with z | z
  · rw [List.getElem?_append_left z] at hp
    rw [List.getElem?_append_left (by omega)] at hq
    exact h1 k p q hp hq
  · rw [List.getElem?_append_right z] at hp
    rw [List.getElem?_append_right (by omega), ← l1] at hq
    exact h2 _ p q hp hq
def WlR (ss : List Sec) (bx : List (Nat × Nat)) (pk : Nat → Option Nat) (zn : Nat → Nm) (nb : Nm) (sn : Nat → Nm) (k : Nat) (W : BxS) : Prop := ScOk W.1 ∧ Pf ss W.1 ∧ dVs W.1 = dVs ss ∧ W.1.length ≤ ss.length + cW pk k ∧ (∀ n, n ∈ nms W.1 ↔ n ∈ nms ss ∨ ∃ l, l < k ∧ pk l ≠ none ∧ n = n1 (zn l) 1) ∧ ∃ b, W.2 = bx ++ b ∧ b.length = 2 * cW pk k ∧ AtB W.1 b (GW pk zn nb sn k)
theorem wl_0 {ss : List Sec} {bx : List (Nat × Nat)} {pk : Nat → Option Nat} {zn : Nat → Nm} {nb : Nm} {sn : Nat → Nm} (h : ScOk ss) : WlR ss bx pk zn nb sn 0 (ss, bx) := ⟨h, Pf.rfl, rfl, Nat.le_refl _, fun n => ⟨Or.inl, fun z => z.elim id fun ⟨l, hl, _⟩ => absurd hl (Nat.not_lt_zero l)⟩, [], (List.append_nil _).symm, rfl, LQ.nil⟩
theorem wl_n {ss : List Sec} {bx : List (Nat × Nat)} {pk : Nat → Option Nat} {zn : Nat → Nm} {nb : Nm} {sn : Nat → Nm} {k : Nat} {W : BxS} (h : WlR ss bx pk zn nb sn k W) (hk : pk k = none) : WlR ss bx pk zn nb sn (k + 1) W := by
  obtain ⟨h1, h2, h3, h4, h5, b, h6, h7, h8⟩ := h
  have e1 : cW pk (k + 1) = cW pk k := by show cW pk k + (if pk k = none then 0 else 1) = _; rw [if_pos hk]; rfl
  have e2 : GW pk zn nb sn (k + 1) = GW pk zn nb sn k := by
    show GW pk zn nb sn k ++ gW pk zn nb sn k = _
    unfold gW; rw [if_pos hk, List.append_nil]
  refine ⟨h1, h2, h3, by rw [e1]; exact h4, fun n => ?_, b, h6, by rw [e1]; exact h7, by rw [e2]; exact h8⟩
  rw [h5]
  constructor
  · rintro (z | ⟨l, l1, l2⟩)
    · exact Or.inl z
    · exact Or.inr ⟨l, by omega, l2⟩
  · rintro (z | ⟨l, l1, l2, l3⟩)
    · exact Or.inl z
    · refine Or.inr ⟨l, ?_, l2, l3⟩
      rcases Nat.lt_or_ge l k with w | w
      · exact w
      · have : l = k := by omega
        rw [this] at l2; exact absurd hk l2
theorem wl_y {ss : List Sec} {bx : List (Nat × Nat)} {pk : Nat → Option Nat} {zn : Nat → Nm} {nb : Nm} {sn : Nat → Nm} {k o j s : Nat} {W : BxS} (h : WlR ss bx pk zn nb sn k W) (hk : pk k ≠ none) (ho : At ss o (zn k)) (hj : At ss j nb) (hs : At ss s (sn k)) : WlR ss bx pk zn nb sn (k + 1) ((frm (frm W.1 (o, none, 1)).1 (o, none, 1)).1, (W.2 ++ [((frm W.1 (o, none, 1)).2, j)]) ++ [((frm (frm W.1 (o, none, 1)).1 (o, none, 1)).2, s)]) ∧ (SsOk W.1 → o < 1000 → SsOk (frm (frm W.1 (o, none, 1)).1 (o, none, 1)).1) := by
  obtain ⟨h1, h2, h3, h4, h5, b, h6, h7, h8⟩ := h
  obtain ⟨s2, i, e1, e2, a1, a2, a3, a4, a5, a6, a7⟩ := wl_two (bx := bx) h1 (h2.at ho) (h2.at hj) (h2.at hs)
  rw [e1]
  show WlR ss bx pk zn nb sn (k + 1) ((frm s2 (o, none, 1)).1, (W.2 ++ [(i, j)]) ++ [((frm s2 (o, none, 1)).2, s)]) ∧ (SsOk W.1 → o < 1000 → SsOk (frm s2 (o, none, 1)).1)
  rw [e2]
  have c1 : cW pk (k + 1) = cW pk k + 1 := by show cW pk k + (if pk k = none then 0 else 1) = _; rw [if_neg hk]
  have c2 : GW pk zn nb sn (k + 1) = GW pk zn nb sn k ++ [(n1 (zn k) 1, nb), (n1 (zn k) 1, sn k)] := by
    show GW pk zn nb sn k ++ gW pk zn nb sn k = _
    unfold gW; rw [if_neg hk]
  refine ⟨⟨a1, h2.tr a2, by rw [← h3]; exact a3, by show s2.length ≤ _; omega, fun n => ?_, b ++ [(i, j), (i, s)], by show (W.2 ++ [(i, j)]) ++ [(i, s)] = _; rw [h6, List.append_assoc, List.append_assoc]; rfl, by rw [List.length_append, h7, c1]; show 2 * cW pk k + 2 = _; omega, by rw [c2]; exact (h8.up a2).app a6⟩, a7⟩
  rw [a5, h5]
  constructor
  · rintro ((z | ⟨l, l1, l2⟩) | z)
    · exact Or.inl z
    · exact Or.inr ⟨l, by omega, l2⟩
    · exact Or.inr ⟨k, by omega, hk, z⟩
  · rintro (z | ⟨l, l1, l2, l3⟩)
    · exact Or.inl (Or.inl z)
    · rcases Nat.lt_or_ge l k with w | w
      · exact Or.inl (Or.inr ⟨l, w, l2, l3⟩)
      · have : l = k := by omega
        rw [this] at l3; exact Or.inr l3
/-- the welcomes of Keygrove -/
theorem wk_run {ss : List Sec} {bx : List (Nat × Nat)} {T : TrS} {st : StS} {Ks : List PkS} {ids : List Nat} {pk : Nat → Option Nat} {zn : Nat → Nm} {nb : Nm} {sn : Nat → Nm} {bf : Nat} (h : ScOk ss) (hbf : st.2.1 = some bf) (hb : At ss bf nb) (hid : ids.Nodup) (h1 : ∀ l kk, pk l = some kk → kk ∈ ids ∧ ∃ q, Ks[kk]? = some q ∧ T.2.2.2 l = some q.1 ∧ At ss q.2.2.1 (zn l) ∧ ∃ n s, mtg T st.1 l = some n ∧ T.2.1 n = some s ∧ At ss s (sn l)) (h2 : ∀ l id q, id ∈ ids → Ks[id]? = some q → T.2.2.2 l = some q.1 → pk l = some id) : ∀ k, WlR ss bx pk zn nb sn k (wlK T st Ks ids (ss, bx) k)
  | 0 => wl_0 h
  | k + 1 => by
    have ih := wk_run (bx := bx) h hbf hb hid h1 h2 k
    show WlR ss bx pk zn nb sn (k + 1) (ids.foldl (wl1 T st Ks k) (wlK T st Ks ids (ss, bx) k))
    have hno : ∀ id, id ∈ ids → pk k ≠ some id → ∀ U, wl1 T st Ks k U id = U := by
      intro id hm hne U
      unfold wl1
      cases e : Ks[id]? with
      | none => rfl
      | some q =>
        show (if T.2.2.2 k = some q.1 then _ else U) = U
        rw [if_neg fun z => hne (h2 k id q hm e z)]
    cases e : pk k with
    | none =>
      rw [fold_no ids _ fun a ha U => hno a ha (by rw [e]; simp) U]
      exact wl_n ih e
    | some kk =>
      obtain ⟨a1, q, a2, a3, a4, n, s, a5, a6, a7⟩ := h1 k kk e
      rw [fold_one ids _ kk hid a1 fun a ha hne U => hno a ha (fun z => hne (by rw [e] at z; exact (Option.some.inj z).symm)) U]
      have e2 : wl1 T st Ks k (wlK T st Ks ids (ss, bx) k) kk = ((frm (frm (wlK T st Ks ids (ss, bx) k).1 (q.2.2.1, none, 1)).1 (q.2.2.1, none, 1)).1, ((wlK T st Ks ids (ss, bx) k).2 ++ [((frm (wlK T st Ks ids (ss, bx) k).1 (q.2.2.1, none, 1)).2, bf)]) ++ [((frm (frm (wlK T st Ks ids (ss, bx) k).1 (q.2.2.1, none, 1)).1 (q.2.2.1, none, 1)).2, s)]) := by
        unfold wl1
        rw [a2]
        show (if T.2.2.2 k = some q.1 then _ else _) = _
        rw [if_pos a3, hbf, a5]
        show (_, (_ ++ [(_, bf)]) ++ [(_, ((T.2.1 n)).getD 0)]) = _
        rw [a6]; rfl
      rw [e2]
      exact (wl_y ih (by rw [e]; simp) a4 hb a7).1
/-- the welcomes of KeygroveModel -/
theorem wm_run {tt : List Sec} {cx : List (Nat × Nat)} {sec : Nat → Nat} {Ks : List MkS} {pk : Nat → Option Nat} {zn : Nat → Nm} {nb : Nm} {sn : Nat → Nm} {bf : Nat} (h : ScOk tt) (ho : SsOk tt) (hb : At tt bf nb) (hl : tt.length < 1000) (h1 : ∀ l kk, pk l = some kk → ∃ q, Ks[kk]? = some q ∧ At tt q.2.2.1 (zn l) ∧ At tt (sec l) (sn l)) : ∀ k, WlR tt cx pk zn nb sn k (wlM sec pk Ks bf (tt, cx) k) ∧ SsOk (wlM sec pk Ks bf (tt, cx) k).1
  | 0 => ⟨wl_0 h, ho⟩
  | k + 1 => by
    obtain ⟨ih, io⟩ := wm_run (cx := cx) h ho hb hl h1 k
    show WlR tt cx pk zn nb sn (k + 1) (wlM1 sec pk Ks bf (wlM sec pk Ks bf (tt, cx) k) k) ∧ SsOk (wlM1 sec pk Ks bf (wlM sec pk Ks bf (tt, cx) k) k).1
    cases e : pk k with
    | none => rw [wlM1_n e]; exact ⟨wl_n ih e, io⟩
    | some kk =>
      obtain ⟨q, a2, a4, a7⟩ := h1 k kk e
      have e2 := wlM1_y (sec := sec) (Ks := Ks) (j := bf) (U := wlM sec pk Ks bf (tt, cx) k) e a2 (s1 := (frm (wlM sec pk Ks bf (tt, cx) k).1 (q.2.2.1, none, 1)).1) (a := (frm (wlM sec pk Ks bf (tt, cx) k).1 (q.2.2.1, none, 1)).2) (s2 := (frm (frm (wlM sec pk Ks bf (tt, cx) k).1 (q.2.2.1, none, 1)).1 (q.2.2.1, none, 1)).1) (b := (frm (frm (wlM sec pk Ks bf (tt, cx) k).1 (q.2.2.1, none, 1)).1 (q.2.2.1, none, 1)).2) rfl rfl
      rw [e2]
      obtain ⟨b1, b2⟩ := wl_y ih (by rw [e]; simp) a4 hb a7
      exact ⟨b1, b2 io (by have := a4.lt; omega)⟩
