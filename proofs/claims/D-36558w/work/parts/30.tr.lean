set_option maxRecDepth 100000
/-! search trees over places: l r p (left, right, parent), each place's key, and the keys that may lie under it: lo .. hi -/
def fup {α : Type} (f : Nat → α) (a : Nat) (x : α) : Nat → α := fun b => if b = a then x else f b
theorem fup_s {α : Type} (f : Nat → α) (a : Nat) (x : α) : fup f a x a = x := if_pos rfl
theorem fup_n {α : Type} {f : Nat → α} {a b : Nat} {x : α} (h : b ≠ a) : fup f a x b = f b := if_neg h
def Tr (ns : List Nat) (key : Nat → Nat) (l r p : Nat → Option Nat) (lo hi : Nat → Nat) (root : Option Nat) (M : Nat) : Prop :=
  (∀ a ∈ ns, ∀ b ∈ ns, key a = key b → a = b) ∧
  (∀ a ∈ ns, lo a ≤ key a ∧ key a < hi a ∧ hi a ≤ M) ∧
  (∀ a ∈ ns, l a = none → ∀ b ∈ ns, lo a ≤ key b → key b < key a → False) ∧
  (∀ a ∈ ns, ∀ b, l a = some b → b ∈ ns ∧ p b = some a ∧ lo b = lo a ∧ hi b = key a) ∧
  (∀ a ∈ ns, r a = none → ∀ b ∈ ns, key a < key b → key b < hi a → False) ∧
  (∀ a ∈ ns, ∀ b, r a = some b → b ∈ ns ∧ p b = some a ∧ lo b = key a + 1 ∧ hi b = hi a) ∧
  (∀ a ∈ ns, p a = none → root = some a) ∧
  (∀ a ∈ ns, ∀ b, p a = some b → b ∈ ns ∧ (l b = some a ∨ r b = some a)) ∧
  (root = none → ns = []) ∧
  (∀ a, root = some a → a ∈ ns ∧ p a = none ∧ lo a = 0 ∧ hi a = M)
def rlL (l : Nat → Option Nat) (a b : Nat) : Nat → Option Nat := fun d => if d = b then some a else if l d = some a then some b else l d
def rlR (l r : Nat → Option Nat) (a b : Nat) : Nat → Option Nat := fun d => if d = a then l b else if r d = some a then some b else r d
def rlP (l p : Nat → Option Nat) (a b : Nat) : Nat → Option Nat := fun d => if d = a then some b else if d = b then p a else if l b = some d then some a else p d
def rlRoot (root : Option Nat) (a b : Nat) : Option Nat := if root = some a then some b else root
theorem tr_rotL {ns : List Nat} {key : Nat → Nat} {l r p : Nat → Option Nat} {lo hi : Nat → Nat} {root : Option Nat} {M : Nat} (h : Tr ns key l r p lo hi root M) {a b : Nat} (ha : a ∈ ns) (hb : r a = some b) : Tr ns key (rlL l a b) (rlR l r a b) (rlP l p a b) (fup lo b (lo a)) (fup (fup hi b (hi a)) a (key b)) (rlRoot root a b) M := by
  obtain ⟨h1, h2, h3, h4, h5, h6, h7, h8, h9, h10⟩ := h
  have hab : a ≠ b := by have := h6 a ha b hb; have := h2 a ha; grind
  refine ⟨h1, ?_, ?_, ?_, ?_, ?_, ?_, ?_, ?_, ?_⟩
  · grind [fup]
  · grind [fup, rlL]
  · grind [fup, rlL, rlP]
  · grind [fup, rlR]
  · intro d hd e he
    have q1 := h6 a ha b hb
    have q2 := h2 a ha
    have q3 := h2 b q1.1
    have q4 := h2 d hd
    unfold rlR at he
    split at he
    · have q5 := h4 b q1.1 e he
      grind [fup, rlP]
    · split at he
      · have q5 := h6 d hd a (by assumption)
        cases he
        grind [fup, rlP]
      · have q5 := h6 d hd e he
        have q6 := h4 b q1.1
        have q7 := h2 e q5.1
        grind [fup, rlP]
  · grind [rlP, rlRoot]
  · intro d hd e he
    have q1 := h6 a ha b hb
    have q2 := h2 a ha
    have q3 := h2 b q1.1
    have q4 := h2 d hd
    unfold rlP at he
    split at he
    · cases he
      grind [rlL, rlR]
    · split at he
      · have q5 := h8 a ha e he
        have q6 := h2 e q5.1
        have q7 := h4 e q5.1
        have q8 := h6 e q5.1
        unfold rlL rlR
        grind
      · split at he
        · cases he
          grind [rlL, rlR]
        · have q5 := h8 d hd e he
          unfold rlL rlR
          grind
  · grind [rlRoot]
  · grind [rlRoot, rlP, fup]
def rrR (r : Nat → Option Nat) (a b : Nat) : Nat → Option Nat := fun d => if d = b then some a else if r d = some a then some b else r d
def rrL (l r : Nat → Option Nat) (a b : Nat) : Nat → Option Nat := fun d => if d = a then r b else if l d = some a then some b else l d
def rrP (r p : Nat → Option Nat) (a b : Nat) : Nat → Option Nat := fun d => if d = a then some b else if d = b then p a else if r b = some d then some a else p d
theorem tr_rotR {ns : List Nat} {key : Nat → Nat} {l r p : Nat → Option Nat} {lo hi : Nat → Nat} {root : Option Nat} {M : Nat} (h : Tr ns key l r p lo hi root M) {a b : Nat} (ha : a ∈ ns) (hb : l a = some b) : Tr ns key (rrL l r a b) (rrR r a b) (rrP r p a b) (fup (fup lo b (lo a)) a (key b + 1)) (fup hi b (hi a)) (rlRoot root a b) M := by
  obtain ⟨h1, h2, h3, h4, h5, h6, h7, h8, h9, h10⟩ := h
  have hab : a ≠ b := by have := h4 a ha b hb; have := h2 a ha; grind
  refine ⟨h1, ?_, ?_, ?_, ?_, ?_, ?_, ?_, ?_, ?_⟩
  · grind [fup]
  · grind [fup, rrL]
  · intro d hd e he
    have q1 := h4 a ha b hb
    have q2 := h2 a ha
    have q3 := h2 b q1.1
    have q4 := h2 d hd
    unfold rrL at he
    split at he
    · have q5 := h6 b q1.1 e he
      grind [fup, rrP]
    · split at he
      · have q5 := h4 d hd a (by assumption)
        cases he
        grind [fup, rrP]
      · have q5 := h4 d hd e he
        have q6 := h6 b q1.1
        have q7 := h2 e q5.1
        grind [fup, rrP]
  · grind [fup, rrR]
  · intro d hd e he
    have q1 := h4 a ha b hb
    have q2 := h2 a ha
    have q3 := h2 b q1.1
    have q4 := h2 d hd
    unfold rrR at he
    split at he
    · cases he
      grind [fup, rrP]
    · split at he
      · have q5 := h6 d hd a (by assumption)
        cases he
        grind [fup, rrP]
      · have q5 := h6 d hd e he
        have q6 := h6 b q1.1
        have q7 := h2 e q5.1
        grind [fup, rrP]
  · grind [rrP, rlRoot]
  · intro d hd e he
    have q1 := h4 a ha b hb
    have q2 := h2 a ha
    have q3 := h2 b q1.1
    have q4 := h2 d hd
    unfold rrP at he
    split at he
    · cases he
      grind [rrL, rrR]
    · split at he
      · have q5 := h8 a ha e he
        have q6 := h2 e q5.1
        have q7 := h4 e q5.1
        have q8 := h6 e q5.1
        unfold rrL rrR
        grind
      · split at he
        · cases he
          grind [rrL, rrR]
        · have q5 := h8 d hd e he
          unfold rrL rrR
          grind
  · grind [rlRoot]
  · grind [rlRoot, rrP, fup]
def wid (lo hi : Nat → Nat) (x : Option Nat) : Nat := match x with
  | none => 0
  | some a => hi a - lo a
theorem wid_l {ns : List Nat} {key : Nat → Nat} {l r p : Nat → Option Nat} {lo hi : Nat → Nat} {root : Option Nat} {M : Nat} (h : Tr ns key l r p lo hi root M) {a : Nat} (ha : a ∈ ns) : wid lo hi (l a) < wid lo hi (some a) := by
  have q := h.2.1 a ha
  cases e : l a with
  | none => show 0 < hi a - lo a; omega
  | some b => have := h.2.2.2.1 a ha b e; show hi b - lo b < hi a - lo a; omega
theorem wid_r {ns : List Nat} {key : Nat → Nat} {l r p : Nat → Option Nat} {lo hi : Nat → Nat} {root : Option Nat} {M : Nat} (h : Tr ns key l r p lo hi root M) {a : Nat} (ha : a ∈ ns) : wid lo hi (r a) < wid lo hi (some a) := by
  have q := h.2.1 a ha
  cases e : r a with
  | none => show 0 < hi a - lo a; omega
  | some b => have := h.2.2.2.2.2.1 a ha b e; show hi b - lo b < hi a - lo a; omega
/-- a place's parent holds more -/
theorem wid_p {ns : List Nat} {key : Nat → Nat} {l r p : Nat → Option Nat} {lo hi : Nat → Nat} {root : Option Nat} {M : Nat} (h : Tr ns key l r p lo hi root M) {a b : Nat} (ha : a ∈ ns) (hb : p a = some b) : wid lo hi (some a) < wid lo hi (some b) := by
  have q := h.2.2.2.2.2.2.2.1 a ha b hb
  rcases q.2 with e | e
  · rw [← e]; exact wid_l h q.1
  · rw [← e]; exact wid_r h q.1
/-! of the places that may hold k, just one is the last -/
def Up (p : Nat → Option Nat) : Nat → Nat → Nat → Prop
  | 0, a, b => a = b
  | n + 1, a, b => ∃ c, p a = some c ∧ Up p n c b
theorem up_last {p : Nat → Option Nat} : ∀ {n a b : Nat}, Up p (n + 1) a b → ∃ x, Up p n a x ∧ p x = some b
  | 0, a, b, ⟨c, h, e⟩ => ⟨a, rfl, by rw [h]; exact congrArg some e⟩
  | n + 1, a, b, ⟨c, h, e⟩ => by
    obtain ⟨x, h1, h2⟩ := up_last e
    exact ⟨x, ⟨c, h, h1⟩, h2⟩
def Pk (ns : List Nat) (lo hi : Nat → Nat) (k a : Nat) : Prop := a ∈ ns ∧ lo a ≤ k ∧ k < hi a
section
variable {ns : List Nat} {key : Nat → Nat} {l r p : Nat → Option Nat} {lo hi : Nat → Nat} {root : Option Nat} {M k : Nat}
theorem pk_p (h : Tr ns key l r p lo hi root M) {a b : Nat} (ha : Pk ns lo hi k a) (hb : p a = some b) : Pk ns lo hi k b ∧ (k < key b → l b = some a) ∧ (key b < k → r b = some a) ∧ k ≠ key b := by
  obtain ⟨g1, g2, g3, g4, g5, g6, g7, g8, g9, g10⟩ := h
  have q1 := g8 a ha.1 b hb
  have q2 := g2 b q1.1
  have q3 := ha.2
  rcases q1.2 with e | e
  · have q4 := g4 b q1.1 a e
    refine ⟨⟨q1.1, by omega, by omega⟩, fun _ => e, fun z => by omega, by omega⟩
  · have q4 := g6 b q1.1 a e
    refine ⟨⟨q1.1, by omega, by omega⟩, fun z => by omega, fun _ => e, by omega⟩
theorem pk_inj (h : Tr ns key l r p lo hi root M) {a b c : Nat} (ha : Pk ns lo hi k a) (hb : Pk ns lo hi k b) (h1 : p a = some c) (h2 : p b = some c) : a = b := by
  have q1 := pk_p h ha h1
  have q2 := pk_p h hb h2
  rcases Nat.lt_trichotomy k (key c) with e | e | e
  · have z := (q1.2.1 e).symm.trans (q2.2.1 e); exact Option.some.inj z
  · exact absurd e q1.2.2.2
  · have z := (q1.2.2.1 e).symm.trans (q2.2.2.1 e); exact Option.some.inj z
theorem pk_up (h : Tr ns key l r p lo hi root M) : ∀ {n a b : Nat}, Pk ns lo hi k a → Up p n a b → Pk ns lo hi k b
  | 0, a, b, ha, e => by cases e; exact ha
  | n + 1, a, b, ha, ⟨c, e, u⟩ => pk_up h (pk_p h ha e).1 u
theorem up_root (h : Tr ns key l r p lo hi root M) {t : Nat} (ht : root = some t) : ∀ (N a : Nat), a ∈ ns → M - wid lo hi (some a) ≤ N → ∃ n, Up p n a t
  | 0, a, ha, hN => by
    cases e : p a with
    | none => have := h.2.2.2.2.2.2.1 a ha e; rw [ht] at this; cases this; exact ⟨0, rfl⟩
    | some b =>
      have q := wid_p h ha e
      have q2 := h.2.1 b (h.2.2.2.2.2.2.2.1 a ha b e).1
      simp only [wid] at q hN
      omega
  | N + 1, a, ha, hN => by
    cases e : p a with
    | none => have := h.2.2.2.2.2.2.1 a ha e; rw [ht] at this; cases this; exact ⟨0, rfl⟩
    | some b =>
      have q := wid_p h ha e
      have hb := (h.2.2.2.2.2.2.2.1 a ha b e).1
      have q2 := h.2.1 b hb
      obtain ⟨n, hn⟩ := up_root h ht N b hb (by simp only [wid] at q hN ⊢; omega)
      exact ⟨n + 1, b, e, hn⟩
theorem up_cmp (h : Tr ns key l r p lo hi root M) {t : Nat} : ∀ {n a m d : Nat}, Pk ns lo hi k a → Pk ns lo hi k d → Up p n a t → Up p m d t → n ≤ m → Up p (m - n) d a
  | 0, a, m, d, ha, hd, u, v, _ => by cases u; exact v
  | n + 1, a, m, d, ha, hd, ⟨c, e, u⟩, v, hm => by
    have q := up_cmp h (pk_p h ha e).1 hd u v (by omega)
    obtain ⟨j, hj⟩ : ∃ j, m - n = j + 1 := ⟨m - n - 1, by omega⟩
    rw [hj] at q
    obtain ⟨x, x1, x2⟩ := up_last q
    have : x = a := pk_inj h (pk_up h hd x1) ha x2 e
    rw [show m - (n + 1) = j by omega, ← this]
    exact x1
/-- nothing lies under a on k's side -/
def En (key : Nat → Nat) (l r : Nat → Option Nat) (k a : Nat) : Prop := (k < key a → l a = none) ∧ (key a < k → r a = none)
theorem tr_uniq (h : Tr ns key l r p lo hi root M) {a d : Nat} (ha : Pk ns lo hi k a) (hd : Pk ns lo hi k d) (ea : En key l r k a) (ed : En key l r k d) : a = d := by
  obtain ⟨t, ht⟩ : ∃ t, root = some t := by
    cases e : root with
    | none => have := h.2.2.2.2.2.2.2.2.1 e; rw [this] at ha; exact absurd ha.1 (by simp)
    | some t => exact ⟨t, rfl⟩
  obtain ⟨n, hn⟩ := up_root h ht _ a ha.1 (Nat.le_refl _)
  obtain ⟨m, hm⟩ := up_root h ht _ d hd.1 (Nat.le_refl _)
  have key1 : ∀ {n m a d : Nat}, Pk ns lo hi k a → Pk ns lo hi k d → En key l r k a → Up p n a t → Up p m d t → n ≤ m → a = d := by
    intro n m a d ha hd ea hn hm hnm
    have q := up_cmp h ha hd hn hm hnm
    cases e : m - n with
    | zero => rw [e] at q; exact q.symm
    | succ j =>
      rw [e] at q
      obtain ⟨x, x1, x2⟩ := up_last q
      have z := pk_p h (pk_up h hd x1) x2
      rcases Nat.lt_trichotomy k (key a) with e | e | e
      · have := z.2.1 e; rw [ea.1 e] at this; cases this
      · exact absurd e z.2.2.2
      · have := z.2.2.1 e; rw [ea.2 e] at this; cases this
  rcases Nat.le_total n m with z | z
  · exact key1 ha hd ea hn hm z
  · exact (key1 hd ha ed hm hn z).symm
end
/-! a new place under a -/
theorem tr_insL {ns : List Nat} {key : Nat → Nat} {l r p : Nat → Option Nat} {lo hi : Nat → Nat} {root : Option Nat} {M : Nat} (h : Tr ns key l r p lo hi root M) {a n k : Nat} (hn : n ∉ ns) (ha : a ∈ ns) (hl : l a = none) (h1 : lo a ≤ k) (h2 : k < key a) : Tr (n :: ns) (fup key n k) (fup (fup l n none) a (some n)) (fup r n none) (fup p n (some a)) (fup lo n (lo a)) (fup hi n (key a)) root M := by
  obtain ⟨g1, g2, g3, g4, g5, g6, g7, g8, g9, g10⟩ := h
  have q2 := g2 a ha
  have q3 := g3 a ha hl
  have hna : n ≠ a := fun e => hn (e ▸ ha)
  have U : ∀ d ∈ ns, lo d ≤ k → k < hi d → (k < key d → l d = none) → (key d < k → r d = none) → d = a := fun d hd w1 w2 w3 w4 => (tr_uniq ⟨g1, g2, g3, g4, g5, g6, g7, g8, g9, g10⟩ ⟨ha, h1, by omega⟩ ⟨hd, w1, w2⟩ ⟨fun _ => hl, fun z => by omega⟩ ⟨w3, w4⟩).symm
  refine ⟨?_, ?_, ?_, ?_, ?_, ?_, ?_, ?_, ?_, ?_⟩ <;> grind [fup]
theorem tr_insR {ns : List Nat} {key : Nat → Nat} {l r p : Nat → Option Nat} {lo hi : Nat → Nat} {root : Option Nat} {M : Nat} (h : Tr ns key l r p lo hi root M) {a n k : Nat} (hn : n ∉ ns) (ha : a ∈ ns) (hl : r a = none) (h1 : key a < k) (h2 : k < hi a) : Tr (n :: ns) (fup key n k) (fup l n none) (fup (fup r n none) a (some n)) (fup p n (some a)) (fup lo n (key a + 1)) (fup hi n (hi a)) root M := by
  obtain ⟨g1, g2, g3, g4, g5, g6, g7, g8, g9, g10⟩ := h
  have q2 := g2 a ha
  have q3 := g5 a ha hl
  have hna : n ≠ a := fun e => hn (e ▸ ha)
  have U : ∀ d ∈ ns, lo d ≤ k → k < hi d → (k < key d → l d = none) → (key d < k → r d = none) → d = a := fun d hd w1 w2 w3 w4 => (tr_uniq ⟨g1, g2, g3, g4, g5, g6, g7, g8, g9, g10⟩ ⟨ha, by omega, h2⟩ ⟨hd, w1, w2⟩ ⟨fun z => by omega, fun _ => hl⟩ ⟨w3, w4⟩).symm
  refine ⟨?_, ?_, ?_, ?_, ?_, ?_, ?_, ?_, ?_, ?_⟩ <;> grind [fup]
theorem tr_one {n k M : Nat} (hk : k < M) : Tr [n] (fun _ => k) (fun _ => none) (fun _ => none) (fun _ => none) (fun _ => 0) (fun _ => M) (some n) M := by
  refine ⟨?_, ?_, ?_, ?_, ?_, ?_, ?_, ?_, ?_, ?_⟩ <;> grind
/-! the way down to a key -/
def Sk (ns : List Nat) (key lo hi : Nat → Nat) (k : Nat) (x : Option Nat) : Prop := (∀ a, x = some a → a ∈ ns ∧ lo a ≤ k ∧ k < hi a) ∧ (x = none → ∀ b ∈ ns, key b ≠ k)
theorem sk_root {ns : List Nat} {key : Nat → Nat} {l r p : Nat → Option Nat} {lo hi : Nat → Nat} {root : Option Nat} {M : Nat} (h : Tr ns key l r p lo hi root M) {k : Nat} (hk : k < M) : Sk ns key lo hi k root := by
  obtain ⟨g1, g2, g3, g4, g5, g6, g7, g8, g9, g10⟩ := h
  unfold Sk; grind
theorem sk_l {ns : List Nat} {key : Nat → Nat} {l r p : Nat → Option Nat} {lo hi : Nat → Nat} {root : Option Nat} {M : Nat} (h : Tr ns key l r p lo hi root M) {k a : Nat} (hs : Sk ns key lo hi k (some a)) (hk : k < key a) : Sk ns key lo hi k (l a) := by
  obtain ⟨g1, g2, g3, g4, g5, g6, g7, g8, g9, g10⟩ := h
  have q := hs.1 a rfl
  refine ⟨fun b hb => ?_, fun hn b hb e => g3 a q.1 hn b hb (by omega) (by omega)⟩
  have := g4 a q.1 b hb
  grind
theorem sk_r {ns : List Nat} {key : Nat → Nat} {l r p : Nat → Option Nat} {lo hi : Nat → Nat} {root : Option Nat} {M : Nat} (h : Tr ns key l r p lo hi root M) {k a : Nat} (hs : Sk ns key lo hi k (some a)) (hk : key a < k) : Sk ns key lo hi k (r a) := by
  obtain ⟨g1, g2, g3, g4, g5, g6, g7, g8, g9, g10⟩ := h
  have q := hs.1 a rfl
  refine ⟨fun b hb => ?_, fun hn b hb e => g5 a q.1 hn b hb (by omega) (by omega)⟩
  have := g6 a q.1 b hb
  grind
