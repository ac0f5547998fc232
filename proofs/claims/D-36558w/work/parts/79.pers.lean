set_option maxRecDepth 100000
/-! ===== the small things of Keygrove and its persons ===== -/
/-- a package: person, first, second, used, added in, open -/
abbrev PkS : Type := Nat × Nat × Nat × Bool × Option Nat × Bool
/-- a proposal: 0, package | 1, leaf | 2, leaf, secret -/
abbrev PrS : Type := Nat × Nat × Nat
/-- a message: epoch, leaf, place, text -/
abbrev MsS : Type := Nat × Nat × Nat × Nat
/-- a step: leaf, before, secret, where boxes begin and end by nodes -/
abbrev StS : Type := Nat × Option Nat × Nat × (Nat → Option Nat) × (Nat → Option Nat)
/-- a chain: next, place, what is left -/
abbrev ChS : Type := Nat × Nat × (Nat → Option Nat)
/-- a person: number, ever held, packages, epoch, leaf, nodes, onward, key, chains, renewal -/
abbrev PeS : Type := Nat × (Nat → Bool) × List Nat × Option Nat × Nat × (Nat → Option Nat) × Nat × Nat × (Nat → Option ChS) × Option Nat
abbrev pNo (r : PeS) : Nat := r.1
abbrev pEv (r : PeS) : Nat → Bool := r.2.1
abbrev pPk (r : PeS) : List Nat := r.2.2.1
abbrev pEp (r : PeS) : Option Nat := r.2.2.2.1
abbrev pLf (r : PeS) : Nat := r.2.2.2.2.1
abbrev pNd (r : PeS) : Nat → Option Nat := r.2.2.2.2.2.1
abbrev pOn (r : PeS) : Nat := r.2.2.2.2.2.2.1
abbrev pKy (r : PeS) : Nat := r.2.2.2.2.2.2.2.1
abbrev pCh (r : PeS) : Nat → Option ChS := r.2.2.2.2.2.2.2.2.1
abbrev pRn (r : PeS) : Option Nat := r.2.2.2.2.2.2.2.2.2
def ChB (c : ChS) : Prop := c.1 < 1000 ∧ c.2.1 < 100 ∧ ∀ i n, c.2.2 i = some n → n < 1000
def PeB (r : PeS) : Prop := pNo r < 16 ∧ pLf r < 16 ∧ pOn r < 1000 ∧ pKy r < 1000 ∧ (∀ n, pEp r = some n → n < 100) ∧ (∀ n, pRn r = some n → n < 1000) ∧ (∀ i n, pNd r i = some n → n < 1000) ∧ (∀ i c, pCh r i = some c → i < 16 ∧ ChB c) ∧ (∀ x, pEv r x = true → x < 1000)
def PkB (r : PkS) : Prop := r.1 < 16 ∧ r.2.1 < 1000 ∧ r.2.2.1 < 1000 ∧ ∀ n, r.2.2.2.2.1 = some n → n < 100
/-- the places of packages -/
def Plc (pks : List Nat) (ids plc : List Nat) : Prop := plc.map some = ids.map fun k => pks[k]?
theorem Plc.at {pks ids plc : List Nat} (h : Plc pks ids plc) : plc.length = ids.length ∧ ∀ (i k : Nat), ids[i]? = some k → ∃ a : Nat, plc[i]? = some a ∧ pks[k]? = some a := by
  have hl := congrArg List.length h
  simp at hl
  refine ⟨hl, fun i k hk => ?_⟩
  have h1 := congrArg (fun l => l[i]?) h
  simp only [List.getElem?_map, hk, Option.map_some] at h1
  obtain ⟨a, ha⟩ := get_ex (xs := plc) (i := i) (by have := get_lt2 hk; omega)
  rw [ha] at h1
  exact ⟨a, ha, by simpa using h1.symm⟩
theorem Plc.grow {pks ids plc : List Nat} (h : Plc pks ids plc) (p : Nat) (hb : ∀ k ∈ ids, k < pks.length) : Plc (pks ++ [p]) ids plc := by
  unfold Plc at h ⊢
  rw [h]
  refine List.map_congr_left fun k hk => ?_
  rw [List.getElem?_append_left (hb k hk)]
def pkH (Ks : List PkS) (ids : List Nat) (x : Nat) : Prop := ∃ i ∈ ids, ∃ q, Ks[i]? = some q ∧ (x = q.2.1 ∨ x = q.2.2.1)
def chH (c : ChS) (x : Nat) : Prop := x = c.1 ∨ ∃ n, c.2.2 n = some x
/-- what a person holds now -/
def helP (Ks : List PkS) (P : PeS) (x : Nat) : Prop := pkH Ks (pPk P) x ∨ (∃ n, pNd P n = some x) ∨ (pEp P ≠ none ∧ (x = pOn P ∨ x = pKy P ∨ ∃ n c, pCh P n = some c ∧ chH c x)) ∨ pRn P = some x
/-- values by keys below j -/
def upT {α : Type} (F : Nat → Option α) (Q : α → Nat → Prop) (j x : Nat) : Prop := ∃ n c, n < j ∧ F n = some c ∧ Q c x
theorem upT_0 {α : Type} {F : Nat → Option α} {Q : α → Nat → Prop} {x : Nat} : ¬ upT F Q 0 x := by
  rintro ⟨n, c, h, -⟩
  exact absurd h (Nat.not_lt_zero n)
theorem upT_s {α : Type} {F : Nat → Option α} {Q : α → Nat → Prop} {j k x : Nat} {c : α} (hj : j ≤ k) (hk : F k = some c) (hb : ∀ q, j ≤ q → q < k → F q = none) : upT F Q (k + 1) x ↔ upT F Q j x ∨ Q c x := by
  constructor
  · rintro ⟨n, d, h1, h2, h3⟩
    rcases Nat.lt_or_ge n j with z | z
    · exact Or.inl ⟨n, d, z, h2, h3⟩
    · rcases Nat.lt_or_ge n k with z2 | z2
      · rw [hb n z z2] at h2; cases h2
      · rw [show n = k by omega, hk] at h2; cases h2; exact Or.inr h3
  · rintro (⟨n, d, h1, h2, h3⟩ | h)
    · exact ⟨n, d, by omega, h2, h3⟩
    · exact ⟨k, c, by omega, hk, h⟩
theorem upT_e {α : Type} {F : Nat → Option α} {Q : α → Nat → Prop} {j x : Nat} (h : ¬ ∃ k, j ≤ k ∧ F k ≠ none) : upT F Q j x ↔ ∃ n c, F n = some c ∧ Q c x := by
  constructor
  · rintro ⟨n, c, -, h2, h3⟩
    exact ⟨n, c, h2, h3⟩
  · rintro ⟨n, c, h2, h3⟩
    rcases Nat.lt_or_ge n j with z | z
    · exact ⟨n, c, z, h2, h3⟩
    · exact absurd ⟨n, z, by rw [h2]; simp⟩ h
theorem sIns_iff (S : Nat → Bool) (i x : Nat) : sIns S i x = true ↔ S x = true ∨ x = i := ⟨fun h => (sIns_o h).symm, fun h => h.elim sIns_m fun e => by rw [e]; exact sIns_1 _ _⟩
theorem pkH_0 (Ks : List PkS) (x : Nat) : ¬ pkH Ks [] x := by
  rintro ⟨i, hi, -⟩
  cases hi
theorem pkH_s {Ks : List PkS} {ids : List Nat} {k i : Nat} {q : PkS} (hi : ids[k]? = some i) (hq : Ks[i]? = some q) (x : Nat) : pkH Ks (ids.take (k + 1)) x ↔ pkH Ks (ids.take k) x ∨ (x = q.2.1 ∨ x = q.2.2.1) := by
  rw [List.take_add_one, hi]
  constructor
  · rintro ⟨j, hj, p, hp, hx⟩
    rcases List.mem_append.mp hj with h | h
    · exact Or.inl ⟨j, h, p, hp, hx⟩
    · simp at h
      rw [h, hq] at hp; cases hp
      exact Or.inr hx
  · rintro (⟨j, hj, p, hp, hx⟩ | h)
    · exact ⟨j, List.mem_append_left _ hj, p, hp, hx⟩
    · exact ⟨i, List.mem_append_right _ (by simp), q, hq, h⟩
theorem MoE.opn {α : Type} {E : Nat → α → va_W → Prop} {F : Nat → Option α} {f : Nat → Option Nat} {w2 : va_W} (h : Big 128 (MoE E f F) w2) (ho : ∀ k, 128 ≤ k → f k = none ∧ F k = none) {k a : Nat} (hf : f k = some a) : ∃ (r : α) (u1 wi u2 : va_W), F k = some r ∧ E a r wi ∧ (∀ (r2 : α) (wj : va_W), E a r2 wj → Big 128 (MoE E f (fup F k (some r2))) ([u1, wj, u2] : List va_W).flatten) ∧ (∀ wj : va_W, E a r wj → Big 128 (MoE E f F) ([u1, wj, u2] : List va_W).flatten) ∧ w2 = ([u1, wi, u2] : List va_W).flatten := by
  rcases Nat.lt_or_ge k 128 with hk | hk
  · obtain ⟨u1, wi, u2, hi, hcl, e⟩ := h.opn hk
    rcases hi with ⟨h1, -, -⟩ | ⟨b, r, h1, h2, h3⟩
    · rw [hf] at h1; cases h1
    · rw [hf] at h1; cases h1
      refine ⟨r, u1, wi, u2, h2, h3, fun r2 wj hj => hcl _ wj (fun j hj hne v hv => ?_) (Or.inr ⟨a, r2, hf, fup_s _ _ _, hj⟩), fun wj hj => hcl _ wj (fun j _ _ v hv => hv) (Or.inr ⟨a, r, hf, h2, hj⟩), e⟩
      unfold MoE; rw [fup_n hne]; exact hv
  · rw [(ho k hk).1] at hf; cases hf
theorem fup_idt {α : Type} {F : Nat → α} {k : Nat} {x : α} (h : F k = x) : fup F k x = F := by
  funext b
  unfold fup
  split
  · rename_i e; rw [e, h]
  · rfl
theorem set_same {α : Type} {xs : List α} {i : Nat} {x : α} (h : xs[i]? = some x) : xs.set i x = xs := by
  refine List.ext_getElem? fun j => ?_
  rw [List.getElem?_set]
  split
  · rename_i e; subst e; split
    · exact h.symm
    · rename_i z; exact absurd (get_lt2 h) z
  · rfl
