set_option maxRecDepth 100000
/-! ===== the relation of the two sides ===== -/
/-- lists, one by one -/
def LQ {α β : Type} (R : Nat → α → β → Prop) (xs : List α) (ys : List β) : Prop := xs.length = ys.length ∧ ∀ (k : Nat) (x : α) (y : β), xs[k]? = some x → ys[k]? = some y → R k x y
section
variable {α β : Type} {R S : Nat → α → β → Prop} {xs : List α} {ys : List β}
theorem LQ.nil : LQ R [] [] := ⟨rfl, fun k x y h => by simp at h⟩
theorem LQ.l (h : LQ R xs ys) {k : Nat} {x : α} (hx : xs[k]? = some x) : ∃ y, ys[k]? = some y ∧ R k x y := by
  obtain ⟨y, hy⟩ := get_ex (xs := ys) (i := k) (by have := get_lt2 hx; have := h.1; omega)
  exact ⟨y, hy, h.2 k x y hx hy⟩
theorem LQ.r (h : LQ R xs ys) {k : Nat} {y : β} (hy : ys[k]? = some y) : ∃ x, xs[k]? = some x ∧ R k x y := by
  obtain ⟨x, hx⟩ := get_ex (xs := xs) (i := k) (by have := get_lt2 hy; have := h.1; omega)
  exact ⟨x, hx, h.2 k x y hx hy⟩
theorem LQ.imp (h : LQ R xs ys) (hi : ∀ (k : Nat) (x : α) (y : β), xs[k]? = some x → ys[k]? = some y → R k x y → S k x y) : LQ S xs ys := ⟨h.1, fun k x y hx hy => hi k x y hx hy (h.2 k x y hx hy)⟩
theorem snoc_at {xs : List α} {a x : α} {k : Nat} (h : (xs ++ [a])[k]? = some x) : (k < xs.length ∧ xs[k]? = some x) ∨ (k = xs.length ∧ x = a) := by
  rcases Nat.lt_or_ge k xs.length with z | z
  · rw [List.getElem?_append_left z] at h; exact Or.inl ⟨z, h⟩
  · rw [List.getElem?_append_right z] at h
    have hl := get_lt2 h
    have e : k = xs.length := by simp at hl; omega
    rw [e, Nat.sub_self] at h
    cases h
    exact Or.inr ⟨e, rfl⟩
theorem LQ.snoc (h : LQ R xs ys) {x : α} {y : β} (hr : R xs.length x y) : LQ R (xs ++ [x]) (ys ++ [y]) := by
  refine ⟨by simp [h.1], fun k a b ha hb => ?_⟩
  rcases snoc_at ha with ⟨z, ha⟩ | ⟨z, rfl⟩
  · rcases snoc_at hb with ⟨z2, hb⟩ | ⟨z2, rfl⟩
    · exact h.2 k a b ha hb
    · have := h.1; omega
  · rcases snoc_at hb with ⟨z2, hb⟩ | ⟨z2, rfl⟩
    · have := h.1; omega
    · rw [z]; exact hr
theorem set_cases {xs : List α} {i k : Nat} {a x : α} (h : (xs.set i a)[k]? = some x) : (k = i ∧ x = a) ∨ (k ≠ i ∧ xs[k]? = some x) := by
  rw [List.getElem?_set] at h
  by_cases e : i = k
  · rw [if_pos e] at h
    split at h
    · cases h; exact Or.inl ⟨e.symm, rfl⟩
    · cases h
  · rw [if_neg e] at h; exact Or.inr ⟨Ne.symm e, h⟩
theorem LQ.set (h : LQ R xs ys) {i : Nat} {x : α} {y : β} (hr : R i x y) : LQ R (xs.set i x) (ys.set i y) := by
  refine ⟨by rw [List.length_set, List.length_set]; exact h.1, fun k a b ha hb => ?_⟩
  rcases set_cases ha with ⟨z, rfl⟩ | ⟨z, ha⟩
  · rcases set_cases hb with ⟨z2, rfl⟩ | ⟨z2, hb⟩
    · rw [z]; exact hr
    · exact absurd z z2
  · rcases set_cases hb with ⟨z2, rfl⟩ | ⟨z2, hb⟩
    · exact absurd z2 z
    · exact h.2 k a b ha hb
end
/-- packages -/
def PkQ (ss tt : List Sec) (q : PkS) (p : MkS) : Prop := q.1 = p.1 ∧ Nq ss tt q.2.1 p.2.1 ∧ Nq ss tt q.2.2.1 p.2.2.1 ∧ q.2.2.2.1 = p.2.2.2.1 ∧ q.2.2.2.2.2 = (p.2.2.2.1 && !p.2.2.2.2) ∧ (p.2.2.2.2 = true → p.2.2.2.1 = true)
theorem PkQ.up {ss tt s2 t2 : List Sec} (h1 : Pf ss s2) (h2 : Pf tt t2) {q : PkS} {p : MkS} (h : PkQ ss tt q p) : PkQ s2 t2 q p := ⟨h.1, h.2.1.up h1 h2, h.2.2.1.up h1 h2, h.2.2.2⟩
/-- the packages that a person still has -/
def pksM (Ks : List MkS) (i : Nat) : List Nat := (List.range Ks.length).filter fun k => match Ks[k]? with
  | none => false
  | some q => q.1 == i && !q.2.2.2.2
theorem pksM_m {Ks : List MkS} {i k : Nat} : k ∈ pksM Ks i ↔ ∃ q, Ks[k]? = some q ∧ q.1 = i ∧ ¬ q.2.2.2.2 = true := by
  unfold pksM
  rw [List.mem_filter, List.mem_range]
  constructor
  · rintro ⟨h1, h2⟩
    obtain ⟨q, hq⟩ := get_ex h1
    rw [hq] at h2
    simp at h2
    exact ⟨q, hq, h2.1, by simp [h2.2]⟩
  · rintro ⟨q, hq, h1, h2⟩
    refine ⟨get_lt2 hq, ?_⟩
    rw [hq]
    simp [h1, h2]
/-- chains as one has gone along them -/
def ChQ (ss tt : List Sec) (c : ChS) (d : McS) : Prop := Nq ss tt c.1 d.1 ∧ c.2.1 = d.2.1 ∧ (d.2.2.map (·.1)).Nodup ∧ (∀ p x, c.2.2 p = some x → ∃ y, (p, y) ∈ d.2.2 ∧ Nq ss tt x y) ∧ (∀ p y, (p, y) ∈ d.2.2 → ∃ x, c.2.2 p = some x ∧ Nq ss tt x y) ∧ d.2.2.length ≤ d.2.1 ∧ ∀ y ∈ d.2.2, y.1 < d.2.1
theorem ChQ.up {ss tt s2 t2 : List Sec} (h1 : Pf ss s2) (h2 : Pf tt t2) {c : ChS} {d : McS} (h : ChQ ss tt c d) : ChQ s2 t2 c d :=
  ⟨h.1.up h1 h2, h.2.1, h.2.2.1, fun p x hx => by obtain ⟨y, a, b⟩ := h.2.2.2.1 p x hx; exact ⟨y, a, b.up h1 h2⟩, fun p y hy => by obtain ⟨x, a, b⟩ := h.2.2.2.2.1 p y hy; exact ⟨x, a, b.up h1 h2⟩, h.2.2.2.2.2⟩
/-- what a member holds of a tree -/
def HJ (T : TrS) (l : Nat) (F : Nat → Option Nat) : Prop := ∀ n, F n = if cvr n l = true ∧ n < 2 * 2 ^ T.1 - 1 ∧ ¬ hsB (T.2.2.1 n) l = true then T.2.1 n else none
/-- trees -/
def TrQ (ss tt : List Sec) (T U : TrS) : Prop := T.1 = U.1 ∧ (∀ n, Oq ss tt (T.2.1 n) (U.2.1 n)) ∧ (∀ n, T.2.2.1 n = U.2.2.1 n) ∧ ∀ l, T.2.2.2 l = U.2.2.2 l
theorem TrQ.up {ss tt s2 t2 : List Sec} (h1 : Pf ss s2) (h2 : Pf tt t2) {T U : TrS} (h : TrQ ss tt T U) : TrQ s2 t2 T U := ⟨h.1, fun n => (h.2.1 n).up h1 h2, h.2.2⟩
/-- what holds of a tree -/
def TrI (T : TrS) : Prop := T.1 ≤ 4 ∧ (∀ l, T.2.2.2 l = none ↔ T.2.1 (2 * l) = none) ∧ (∀ l p, T.2.2.2 l = some p → l < 2 ^ T.1 ∧ p < 10) ∧ (∀ l m p, T.2.2.2 l = some p → T.2.2.2 m = some p → l = m) ∧ (∀ n x, T.2.1 n = some x → n < 2 * 2 ^ T.1 - 1) ∧ (∀ n l, hsB (T.2.2.1 n) l = true → cvr n l = true ∧ 0 < lev n ∧ T.2.2.2 l ≠ none) ∧ (∀ n, T.2.2.1 n < 65536) ∧ (∀ n, T.2.1 n = none → T.2.2.1 n = 0) ∧ ∀ n x, T.2.1 n = some x → ∃ l, T.2.2.2 l ≠ none ∧ cvr n l = true ∧ ¬ hsB (T.2.2.1 n) l = true
/-- a member, on both sides -/
def PeI (ss tt : List Sec) (Ts : List TrS) (Es : List MeS) (i : Nat) (r : PeS) (q : MpS) (e : Nat) : Prop := ∃ T Ep, Ts[e]? = some T ∧ Es[e]? = some Ep ∧ T.2.2.2 (pLf r) = some i ∧ mLf q = pLf r ∧ HJ T (pLf r) (pNd r) ∧ (∀ n, 0 < lev n → Oq ss tt (pNd r n) (mNd q n)) ∧ (∀ n, lev n = 0 → mNd q n = none) ∧ Oq ss tt (pNd r (2 * pLf r)) (some (mLs q)) ∧ Nq ss tt (pOn r) (eGo Ep) ∧ Nq ss tt (pKy r) (eKy Ep) ∧ (∀ l, (pCh r l = none ∧ mCh q l = none) ∨ ∃ c d, pCh r l = some c ∧ mCh q l = some d ∧ ChQ ss tt c d) ∧ ∀ l, pCh r l = none ↔ T.2.2.2 l = none
theorem PeI.up {ss tt s2 t2 : List Sec} (h1 : Pf ss s2) (h2 : Pf tt t2) {Ts : List TrS} {Es : List MeS} {i : Nat} {r : PeS} {q : MpS} {e : Nat} (h : PeI ss tt Ts Es i r q e) : PeI s2 t2 Ts Es i r q e := by
  obtain ⟨T, Ep, a1, a2, a3, a4, a5, a6, a7, a8, a9, b1, b2, b3⟩ := h
  refine ⟨T, Ep, a1, a2, a3, a4, a5, fun n hn => (a6 n hn).up h1 h2, a7, a8.up h1 h2, a9.up h1 h2, b1.up h1 h2, fun l => ?_, b3⟩
  rcases b2 l with z | ⟨c, d, z1, z2, z3⟩
  · exact Or.inl z
  · exact Or.inr ⟨c, d, z1, z2, z3.up h1 h2⟩
theorem PeI.grow {ss tt : List Sec} {Ts : List TrS} {Es : List MeS} {i : Nat} {r : PeS} {q : MpS} {e : Nat} (T : TrS) (E : MeS) (h : PeI ss tt Ts Es i r q e) : PeI ss tt (Ts ++ [T]) (Es ++ [E]) i r q e := by
  obtain ⟨T, Ep, a1, a2, a⟩ := h
  exact ⟨T, Ep, by rw [List.getElem?_append_left (get_lt2 a1)]; exact a1, by rw [List.getElem?_append_left (get_lt2 a2)]; exact a2, a⟩
/-- persons, but for what they have held -/
def PeW (ss tt : List Sec) (Ts : List TrS) (Es : List MeS) (Ks : List MkS) (i : Nat) (r : PeS) (q : MpS) : Prop := pNo r = i ∧ mEp q = pEp r ∧ Oq ss tt (pRn r) (mRn q) ∧ pPk r = pksM Ks i ∧ (pEp r = none → (∀ n, pNd r n = none) ∧ (∀ l, pCh r l = none) ∧ (∀ n, mNd q n = none) ∧ (∀ l, mCh q l = none) ∧ pRn r = none) ∧ ∀ e, pEp r = some e → PeI ss tt Ts Es i r q e
theorem PeW.up {ss tt s2 t2 : List Sec} (h1 : Pf ss s2) (h2 : Pf tt t2) {Ts : List TrS} {Es : List MeS} {Ks : List MkS} {i : Nat} {r : PeS} {q : MpS} (h : PeW ss tt Ts Es Ks i r q) : PeW s2 t2 Ts Es Ks i r q :=
  ⟨h.1, h.2.1, h.2.2.1.up h1 h2, h.2.2.2.1, h.2.2.2.2.1, fun e he => (h.2.2.2.2.2 e he).up h1 h2⟩
/-- persons -/
def PeQ (ss tt : List Sec) (Ts : List TrS) (Es : List MeS) (Ks : List MkS) (i : Nat) (r : PeS) (q : MpS) : Prop := PeW ss tt Ts Es Ks i r q ∧ Sq ss tt (fun x => pEv r x = true) (fun y => y ∈ mEv q) ∧ (mEv q).Nodup
theorem PeQ.up {ss tt s2 t2 : List Sec} (h1 : Pf ss s2) (h2 : Pf tt t2) {Ts : List TrS} {Es : List MeS} {Ks : List MkS} {i : Nat} {r : PeS} {q : MpS} (h : PeQ ss tt Ts Es Ks i r q) : PeQ s2 t2 Ts Es Ks i r q :=
  ⟨h.1.up h1 h2, h.2.1.up h1 h2, h.2.2⟩
theorem cvr_0 : ∀ n, n < 31 → ∀ l, l < 16 → (!(decide (lev n = 0)) || !cvr n l || decide (n = 2 * l)) = true := by decide +kernel
theorem cvr_l {n l : Nat} (hn : n < 31) (hl : l < 16) (h1 : lev n = 0) (h2 : cvr n l = true) : n = 2 * l := by
  have h := cvr_0 n hn l hl
  simpa [h1, h2] using h
theorem nd_31 {T : TrS} (h : T.1 ≤ 4) {n : Nat} (hn : n < 2 * 2 ^ T.1 - 1) : n < 31 := by have := p2_4 h; omega
theorem TrI.leaf {T : TrS} (h : TrI T) {l p : Nat} (hl : T.2.2.2 l = some p) : l < 16 := by have := (h.2.2.1 l p hl).1; have := p2_4 h.1; omega
/-- what a person holds, on both sides -/
theorem hel_q {ss tt : List Sec} {Ts : List TrS} {Es : List MeS} {Ks : List PkS} {Ms : List MkS} {i : Nat} {r : PeS} {q : MpS} (hK : LQ (fun _ => PkQ ss tt) Ks Ms) (hT : ∀ T ∈ Ts, TrI T) (h : PeW ss tt Ts Es Ms i r q) : Sq ss tt (helP Ks r) (helM Ms Es i q) := by
  obtain ⟨h1, h2, h3, h6, h7, h8⟩ := h
  constructor
  · rintro x (⟨k, hk, p, hp, hx⟩ | ⟨n, hn⟩ | ⟨he, hx⟩ | hx)
    · rw [h6] at hk
      obtain ⟨p2, hp2, a, b⟩ := pksM_m.mp hk
      have hq := hK.2 k p p2 hp hp2
      rcases hx with e | e
      · exact ⟨p2.2.1, Or.inl ⟨k, p2, get_lt2 hp2, hp2, a, b, Or.inl rfl⟩, by rw [e]; exact hq.2.1⟩
      · exact ⟨p2.2.2.1, Or.inl ⟨k, p2, get_lt2 hp2, hp2, a, b, Or.inr rfl⟩, by rw [e]; exact hq.2.2.1⟩
    · cases e : pEp r with
      | none => rw [(h7 e).1 n] at hn; cases hn
      | some ep =>
        obtain ⟨T, Ep, a1, a2, a3, a4, a5, a6, a7, a8, a9, b1, b2, b3⟩ := h8 ep e
        have hTI := hT T (List.mem_of_getElem? a1)
        have hj := a5 n
        rw [hn] at hj
        have hc : cvr n (pLf r) = true ∧ n < 2 * 2 ^ T.1 - 1 ∧ ¬ hsB (T.2.2.1 n) (pLf r) = true := by
          by_cases z : cvr n (pLf r) = true ∧ n < 2 * 2 ^ T.1 - 1 ∧ ¬ hsB (T.2.2.1 n) (pLf r) = true
          · exact z
          · rw [if_neg z] at hj; cases hj
        have hn31 := nd_31 hTI.1 hc.2.1
        rcases Nat.eq_zero_or_pos (lev n) with z | z
        · have e2 := cvr_l hn31 (hTI.leaf a3) z hc.1
          rw [e2] at hn
          rcases a8 with ⟨w, -⟩ | ⟨u, v, w1, w2, w3⟩
          · rw [hn] at w; cases w
          · rw [hn] at w1; cases w1
            cases w2
            exact ⟨mLs q, Or.inr ⟨ep, Ep, by rw [h2]; exact e, a2, Or.inl rfl⟩, w3⟩
        · rcases a6 n z with ⟨w, -⟩ | ⟨u, v, w1, w2, w3⟩
          · rw [hn] at w; cases w
          · rw [hn] at w1; cases w1
            exact ⟨v, Or.inr ⟨ep, Ep, by rw [h2]; exact e, a2, Or.inr (Or.inr (Or.inl ⟨n, v, hn31, w2, rfl⟩))⟩, w3⟩
    · cases e : pEp r with
      | none => exact absurd e he
      | some ep =>
        obtain ⟨T, Ep, a1, a2, a3, a4, a5, a6, a7, a8, a9, b1, b2, b3⟩ := h8 ep e
        have hTI := hT T (List.mem_of_getElem? a1)
        have hme : mEp q = some ep := by rw [h2]; exact e
        rcases hx with hx | hx | ⟨l, c, hc, hx⟩
        · exact ⟨eGo Ep, Or.inr ⟨ep, Ep, hme, a2, Or.inr (Or.inr (Or.inr (Or.inl rfl)))⟩, by rw [hx]; exact a9⟩
        · exact ⟨eKy Ep, Or.inr ⟨ep, Ep, hme, a2, Or.inr (Or.inr (Or.inr (Or.inr (Or.inl rfl))))⟩, by rw [hx]; exact b1⟩
        · rcases b2 l with ⟨w, -⟩ | ⟨u, d, w1, w2, w3⟩
          · rw [hc] at w; cases w
          · rw [hc] at w1; cases w1
            have hl16 : l < 16 := by
              cases e3 : T.2.2.2 l with
              | none => have := (b3 l).mpr e3; rw [hc] at this; cases this
              | some p => exact hTI.leaf e3
            rcases hx with hx | ⟨p, hp⟩
            · exact ⟨d.1, Or.inr ⟨ep, Ep, hme, a2, Or.inr (Or.inr (Or.inr (Or.inr (Or.inr ⟨l, d, hl16, w2, Or.inl rfl⟩))))⟩, by rw [hx]; exact w3.1⟩
            · obtain ⟨y, y1, y2⟩ := w3.2.2.2.1 p x hp
              exact ⟨y, Or.inr ⟨ep, Ep, hme, a2, Or.inr (Or.inr (Or.inr (Or.inr (Or.inr ⟨l, d, hl16, w2, Or.inr (List.mem_map.mpr ⟨(p, y), y1, rfl⟩)⟩))))⟩, y2⟩
    · cases e : pEp r with
      | none => rw [(h7 e).2.2.2.2] at hx; cases hx
      | some ep =>
        obtain ⟨T, Ep, a1, a2, a⟩ := h8 ep e
        rcases h3 with ⟨w, -⟩ | ⟨u, v, w1, w2, w3⟩
        · rw [hx] at w; cases w
        · rw [hx] at w1; cases w1
          exact ⟨v, Or.inr ⟨ep, Ep, by rw [h2]; exact e, a2, Or.inr (Or.inl w2)⟩, w3⟩
  · rintro y (⟨k, p2, hk, hp2, a, b, hy⟩ | ⟨ep, Ep2, hme, hE2, hy⟩)
    · obtain ⟨p, hp, hq⟩ := hK.r hp2
      have hm : k ∈ pPk r := by rw [h6]; exact pksM_m.mpr ⟨p2, hp2, a, b⟩
      rcases hy with e | e
      · exact ⟨p.2.1, Or.inl ⟨k, hm, p, hp, Or.inl rfl⟩, by rw [e]; exact hq.2.1⟩
      · exact ⟨p.2.2.1, Or.inl ⟨k, hm, p, hp, Or.inr rfl⟩, by rw [e]; exact hq.2.2.1⟩
    · have e : pEp r = some ep := by rw [← h2]; exact hme
      obtain ⟨T, Ep, a1, a2, a3, a4, a5, a6, a7, a8, a9, b1, b2, b3⟩ := h8 ep e
      rw [a2] at hE2; cases hE2
      have hne : pEp r ≠ none := by rw [e]; simp
      rcases hy with hy | hy | ⟨n, v, hn, hv, hy⟩ | hy | hy | ⟨l, d, hl, hd, hy⟩
      · rcases a8 with ⟨-, w⟩ | ⟨u, v, w1, w2, w3⟩
        · cases w
        · cases w2
          exact ⟨u, Or.inr (Or.inl ⟨_, w1⟩), by rw [hy]; exact w3⟩
      · rcases h3 with ⟨-, w⟩ | ⟨u, v, w1, w2, w3⟩
        · rw [hy] at w; cases w
        · rw [hy] at w2; cases w2
          exact ⟨u, Or.inr (Or.inr (Or.inr w1)), w3⟩
      · rw [hy]
        rcases Nat.eq_zero_or_pos (lev n) with z | z
        · rw [a7 n z] at hv; cases hv
        · rcases a6 n z with ⟨-, w⟩ | ⟨u, v2, w1, w2, w3⟩
          · rw [hv] at w; cases w
          · rw [hv] at w2; cases w2
            exact ⟨u, Or.inr (Or.inl ⟨n, w1⟩), w3⟩
      · exact ⟨pOn r, Or.inr (Or.inr (Or.inl ⟨hne, Or.inl rfl⟩)), by rw [hy]; exact a9⟩
      · exact ⟨pKy r, Or.inr (Or.inr (Or.inl ⟨hne, Or.inr (Or.inl rfl)⟩)), by rw [hy]; exact b1⟩
      · rcases b2 l with ⟨-, w⟩ | ⟨c, d2, w1, w2, w3⟩
        · rw [hd] at w; cases w
        · rw [hd] at w2; cases w2
          rcases hy with hy | hy
          · exact ⟨c.1, Or.inr (Or.inr (Or.inl ⟨hne, Or.inr (Or.inr ⟨l, c, w1, Or.inl rfl⟩)⟩)), by rw [hy]; exact w3.1⟩
          · obtain ⟨⟨p, y2⟩, y1, rfl⟩ := List.mem_map.mp hy
            obtain ⟨x, x1, x2⟩ := w3.2.2.2.2.1 p y2 y1
            exact ⟨x, Or.inr (Or.inr (Or.inl ⟨hne, Or.inr (Or.inr ⟨l, c, w1, Or.inr ⟨p, x1⟩⟩)⟩)), x2⟩
