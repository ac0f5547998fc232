set_option maxRecDepth 100000
/-! ===== a member is added to a tree ===== -/
theorem frl_at (P : Nat → Option Nat) : ∀ (f k : Nat), k ≤ frl P f k ∧ frl P f k ≤ k + f ∧ (frl P f k < k + f → P (frl P f k) = none) ∧ ∀ j, k ≤ j → j < frl P f k → P j ≠ none
  | 0, k => ⟨Nat.le_refl _, Nat.le_refl _, fun h => absurd h (Nat.lt_irrefl _), fun j h1 h2 => absurd h2 (Nat.not_lt.mpr h1)⟩
  | f + 1, k => by
    obtain ⟨h1, h2, h3, h4⟩ := frl_at P f (k + 1)
    unfold frl
    by_cases e : P k = none
    · rw [if_pos e]
      exact ⟨Nat.le_refl _, by omega, fun _ => e, fun j a b => by omega⟩
    · rw [if_neg e]
      refine ⟨by omega, by omega, fun z => h3 (by omega), fun j a b => ?_⟩
      by_cases e2 : j = k
      · rw [e2]; exact e
      · exact h4 j (by omega) b
theorem frlT_at {T : TrS} (h : TrI T) : frlT T ≤ 2 ^ T.1 ∧ T.2.2.2 (frlT T) = none ∧ ∀ j, j < frlT T → T.2.2.2 j ≠ none := by
  obtain ⟨h1, h2, h3, h4⟩ := frl_at T.2.2.2 (2 ^ T.1) 0
  refine ⟨by unfold frlT; omega, ?_, fun j hj => h4 j (Nat.zero_le _) hj⟩
  rcases Nat.lt_or_ge (frlT T) (2 ^ T.1) with z | z
  · exact h3 (by unfold frlT at z; omega)
  · cases e : T.2.2.2 (frlT T) with
    | none => rfl
    | some p => have := (h.2.2.1 _ p e).1; omega
theorem st_add {T0 T : TrS} {R : Nat → Bool} {pk : Nat → Option Nat} {p s k : Nat} (h : St T0 T R pk) (hp : p < 10) (hno : ∀ l, T.2.2.2 l ≠ some p) (hno0 : ∀ l, T0.2.2.2 l ≠ some p) (hfr : frlT T < 16) : St T0 (addT T p s) R (fup pk (frlT T) (some k)) ∧ (addT T p s).2.2.2 (frlT T) = some p ∧ (addT T p s).2.1 (2 * frlT T) = some s ∧ (∀ l, l ≠ frlT T → (addT T p s).2.2.2 l = T.2.2.2 l ∧ (addT T p s).2.1 (2 * l) = T.2.1 (2 * l)) ∧ pk (frlT T) = none := by
  obtain ⟨hI, h2, h3, h4, h5, h6, h7, h8⟩ := h
  obtain ⟨f1, f2, -⟩ := frlT_at hI
  obtain ⟨i1, i2, i3, i4, i5, i6, i7, i8, i9⟩ := hI
  have hp4 := p2_4 i1
  generalize hl : frlT T = l at *
  generalize hd : (if l = 2 ^ T.1 then T.1 + 1 else T.1) = d
  have hA : addT T p s = latF (d, fup T.2.1 (2 * l) (some s), T.2.2.1, fup T.2.2.2 l (some p)) l (inW d l) := by unfold addT; simp only [hl, hd]
  have hN : ∀ n, (addT T p s).2.1 n = if n = 2 * l then some s else T.2.1 n := fun n => by rw [hA]; rfl
  have hL : ∀ n, (addT T p s).2.2.1 n = if inW d l n = true ∧ (if n = 2 * l then some s else T.2.1 n) ≠ none then T.2.2.1 n ||| 2 ^ l else T.2.2.1 n := fun n => by rw [hA]; rfl
  have hP : ∀ m, (addT T p s).2.2.2 m = if m = l then some p else T.2.2.2 m := fun n => by rw [hA]; rfl
  have hdd : (addT T p s).1 = d := by rw [hA]; rfl
  have hd4 : d ≤ 4 := by
    rw [← hd]
    split
    · rename_i e
      rcases Nat.lt_or_ge T.1 4 with z | z
      · omega
      · have : T.1 = 4 := by omega
        rw [this] at e; omega
    · exact i1
  have hdl : l < 2 ^ d ∧ 2 ^ T.1 ≤ 2 ^ d := by
    rw [← hd]
    split
    · rename_i e
      rw [Nat.pow_succ]; omega
    · rename_i e; omega
  have hpkl : pk l = none := by
    cases e : pk l with
    | none => rfl
    | some z => exact absurd f2 (h8 l (by rw [e]; simp)).1
  have hlv0 : lev (2 * l) = 0 := lev_lf0 l hfr
  have hw0 : ∀ m, inW d l (2 * m) = true → False := by
    intro m z
    have h1 := inW_lev hd4 hfr z
    have := h1.1
    rw [lev_lf0 m (by omega)] at this; omega
  have hPo : ∀ m q, (addT T p s).2.2.2 m = some q → (m = l ∧ q = p) ∨ (m ≠ l ∧ T.2.2.2 m = some q) := by
    intro m q hm
    rw [hP] at hm
    by_cases e : m = l
    · rw [if_pos e] at hm; cases hm; exact Or.inl ⟨e, rfl⟩
    · rw [if_neg e] at hm; exact Or.inr ⟨e, hm⟩
  have hNi : ∀ n, 0 < lev n → (addT T p s).2.1 n = T.2.1 n := by
    intro n hn
    rw [hN, if_neg]
    intro e; rw [e, hlv0] at hn; omega
  have hLi : ∀ n m, m ≠ l → hsB ((addT T p s).2.2.1 n) m = hsB (T.2.2.1 n) m := by
    intro n m hm
    rw [hL]
    by_cases e2 : inW d l n = true ∧ (if n = 2 * l then some s else T.2.1 n) ≠ none
    · rw [if_pos e2, hsB_or]; simp [hm]
    · rw [if_neg e2]
  refine ⟨⟨⟨by rw [hdd]; exact hd4, fun m => ?_, fun m q hm => ?_, fun m n q hm hn => ?_, fun n x hx => ?_, fun n m hb => ?_, fun n => ?_, fun n hn => ?_, fun n x hx => ?_⟩, fun n hn hne => ?_, fun m q h0 hm => ?_, fun m q h0 hR m2 hm2 => ?_, fun m q h0 hR => ?_, fun m q hm hpk => ?_, fun m q hpk hm m2 => ?_, fun m hpk => ?_⟩, by rw [hP, if_pos rfl], by rw [hN, if_pos rfl], fun m hm => ⟨by rw [hP, if_neg hm], by rw [hN, if_neg (fun z => hm (lf_ev z))]⟩, hpkl⟩
  · rw [hP, hN]
    by_cases e : m = l
    · rw [if_pos e, if_pos (by rw [e])]; simp
    · rw [if_neg e, if_neg fun z => e (lf_ev z)]; exact i2 m
  · rw [hdd]
    rcases hPo m q hm with ⟨a, b⟩ | ⟨a, b⟩
    · rw [a, b]; exact ⟨hdl.1, hp⟩
    · have := i3 m q b; omega
  · rcases hPo m q hm with ⟨a, b⟩ | ⟨a, b⟩
    · rcases hPo n q hn with ⟨a2, b2⟩ | ⟨a2, b2⟩
      · rw [a, a2]
      · rw [b] at b2; exact absurd b2 (hno n)
    · rcases hPo n q hn with ⟨a2, b2⟩ | ⟨a2, b2⟩
      · rw [b2] at b; exact absurd b (hno m)
      · exact i4 m n q b b2
  · rw [hdd]
    rw [hN] at hx
    by_cases e : n = 2 * l
    · have := hdl.1; omega
    · rw [if_neg e] at hx
      have := i5 n x hx
      have := hdl.2
      omega
  · by_cases e : m = l
    · rw [hL] at hb
      by_cases e2 : inW d l n = true ∧ (if n = 2 * l then some s else T.2.1 n) ≠ none
      · have := inW_lev hd4 hfr e2.1
        rw [e]
        exact ⟨this.2.1, this.1, by rw [hP, if_pos rfl]; simp⟩
      · rw [if_neg e2] at hb
        have := (i6 n m hb).2.2
        rw [e] at this; exact absurd f2 this
    · rw [hLi n m e] at hb
      obtain ⟨a, b, c⟩ := i6 n m hb
      exact ⟨a, b, by rw [hP, if_neg e]; exact c⟩
  · rw [hL]
    by_cases e2 : inW d l n = true ∧ (if n = 2 * l then some s else T.2.1 n) ≠ none
    · rw [if_pos e2]; exact or_lt (i7 n) hfr
    · rw [if_neg e2]; exact i7 n
  · rw [hN] at hn
    rw [hL, if_neg (fun z => z.2 hn)]
    by_cases e : n = 2 * l
    · rw [if_pos e] at hn; cases hn
    · rw [if_neg e] at hn; exact i8 n hn
  · rw [hN] at hx
    by_cases e : n = 2 * l
    · refine ⟨l, by rw [hP, if_pos rfl]; simp, by rw [e]; exact cvr_lf hfr, ?_⟩
      rw [hL, if_neg]
      · intro z
        have := (i6 n l z).2.1
        rw [e, hlv0] at this; omega
      · rintro ⟨z, -⟩
        rw [e] at z; exact hw0 l z
    · rw [if_neg e] at hx
      obtain ⟨m, a, b, c⟩ := i9 n x hx
      have hml : m ≠ l := fun z => by rw [z] at a; exact a f2
      exact ⟨m, by rw [hP, if_neg hml]; exact a, b, by rw [hLi n m hml]; exact c⟩
  · rw [hNi n hn] at hne ⊢
    obtain ⟨a, b⟩ := h2 n hn hne
    refine ⟨a, fun m q h0 hm => ?_⟩
    rcases hPo m q hm with ⟨-, b2⟩ | ⟨a2, b2⟩
    · rw [b2] at h0; exact absurd h0 (hno0 m)
    · rw [hLi n m a2]; exact b m q h0 b2
  · rcases hPo m q hm with ⟨-, b2⟩ | ⟨a2, b2⟩
    · rw [b2] at h0; exact absurd h0 (hno0 m)
    · rw [hN, if_neg fun z => a2 (lf_ev z)]; exact h3 m q h0 b2
  · rcases hPo m2 q hm2 with ⟨-, b2⟩ | ⟨a2, b2⟩
    · rw [b2] at h0; exact hno0 m h0
    · exact h4 m q h0 hR m2 b2
  · have := h5 m q h0 hR
    rw [hP, if_neg]
    · exact this
    · intro e; rw [e, f2] at this; cases this
  · unfold fup at hpk
    rcases hPo m q hm with ⟨a2, b2⟩ | ⟨a2, b2⟩
    · rw [if_pos a2] at hpk; cases hpk
    · rw [if_neg a2] at hpk; exact h6 m q b2 hpk
  · unfold fup at hpk
    rcases hPo m q hm with ⟨a2, b2⟩ | ⟨a2, b2⟩
    · rw [b2]; exact hno0 m2
    · rw [if_neg a2] at hpk; exact h7 m q hpk b2 m2
  · unfold fup at hpk
    by_cases e : m = l
    · rw [e]
      refine ⟨by rw [hP, if_pos rfl]; simp, fun n hn hc hne => ?_⟩
      have hne2 := hne
      rw [hNi n hn] at hne2
      rw [hL, if_pos, hsB_or]
      · simp
      · refine ⟨?_, by rw [← hN]; exact hne⟩
        cases e2 : T.2.1 n with
        | none => exact absurd e2 hne2
        | some x =>
          have := i5 n x e2
          have h9 := hdl.2
          exact inW_of hd4 hfr (by omega) hn hc
    · rw [if_neg e] at hpk
      obtain ⟨a, b⟩ := h8 m hpk
      refine ⟨by rw [hP, if_neg e]; exact a, fun n hn hc hne => ?_⟩
      rw [hNi n hn] at hne
      rw [hLi n m e]
      exact b n hn hc hne
