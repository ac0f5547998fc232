set_option maxRecDepth 100000
/-! ===== the stages of a commit: trees ===== -/
theorem hsB_no {s l : Nat} (h : s = 0) : ¬ hsB s l = true := by rw [h, hsB_0]; simp
/-- renewals: the tree before, the tree after -/
def Rn (Rs : List PrS) (own : Nat) (T T1 : TrS) : Prop := TrI T1 ∧ T1.1 = T.1 ∧ (∀ l, T1.2.2.2 l = T.2.2.2 l) ∧ (∀ n, 0 < lev n → T1.2.1 n ≠ none → T1.2.1 n = T.2.1 n ∧ T1.2.2.1 n = T.2.2.1 n) ∧ ∀ l, T1.2.1 (2 * l) = T.2.1 (2 * l) ∨ ∃ x, (2, l, x) ∈ Rs ∧ T1.2.1 (2 * l) = some x ∧ l ≠ own
theorem Rn.rfl {Rs : List PrS} {own : Nat} {T : TrS} (h : TrI T) : Rn Rs own T T := ⟨h, Eq.refl _, fun _ => Eq.refl _, fun _ _ _ => ⟨Eq.refl _, Eq.refl _⟩, fun _ => Or.inl (Eq.refl _)⟩
theorem lf_ev {l m : Nat} (h : 2 * l = 2 * m) : l = m := by omega
theorem rn_step {Rs : List PrS} {own : Nat} {T T1 : TrS} (h : Rn Rs own T T1) {l x : Nat} (hl : T.2.2.2 l ≠ none) (hm : (2, l, x) ∈ Rs) (ho : l ≠ own) : Rn Rs own T (blkF (setN T1 (2 * l) x) (inW T1.1 l)) := by
  obtain ⟨⟨i1, i2, i3, i4, i5, i6, i7, i8, i9⟩, h2, h3, h4, h5⟩ := h
  have hl16 : l < 16 := by
    cases e : T.2.2.2 l with
    | none => exact absurd e hl
    | some p => rw [← h3] at e; have := (i3 l p e).1; have := p2_4 i1; omega
  have hl2 : l < 2 ^ T1.1 := by
    cases e : T.2.2.2 l with
    | none => exact absurd e hl
    | some p => rw [← h3] at e; exact (i3 l p e).1
  have hlf : ∀ m, m < 16 → inW T1.1 l (2 * m) = true → False := fun m hm z => by have := (inW_lev i1 hl16 z).1; rw [lev_lf0 m hm] at this; omega
  have hN : ∀ n, (blkF (setN T1 (2 * l) x) (inW T1.1 l)).2.1 n = if inW T1.1 l n = true then none else if n = 2 * l then some x else T1.2.1 n := fun n => Eq.refl _
  have hL : ∀ n, (blkF (setN T1 (2 * l) x) (inW T1.1 l)).2.2.1 n = if inW T1.1 l n = true then 0 else T1.2.2.1 n := fun n => Eq.refl _
  have hl31 : ∀ m, inW T1.1 l (2 * m) = true → False := by
    intro m z
    have := (inW_lev i1 hl16 z).2.2
    exact hlf m (by omega) z
  refine ⟨⟨i1, fun m => ?_, i3, i4, fun n y hy => ?_, fun n m hb => ?_, fun n => ?_, fun n hn => ?_, fun n y hy => ?_⟩, h2, h3, fun n hn hne => ?_, fun m => ?_⟩
  · rw [hN]
    rw [if_neg fun z => hl31 m z]
    by_cases e : m = l
    · rw [if_pos (by rw [e])]
      show T1.2.2.2 m = none ↔ _
      rw [e, h3]
      exact ⟨fun z => absurd z hl, fun z => by cases z⟩
    · rw [if_neg fun z => e (lf_ev z)]; exact i2 m
  · rw [hN] at hy
    by_cases e : inW T1.1 l n = true
    · rw [if_pos e] at hy; cases hy
    · rw [if_neg e] at hy
      by_cases e2 : n = 2 * l
      · show n < 2 * 2 ^ T1.1 - 1
        omega
      · rw [if_neg e2] at hy; exact i5 n y hy
  · rw [hL] at hb
    by_cases e : inW T1.1 l n = true
    · rw [if_pos e] at hb; exact absurd hb (hsB_no (Eq.refl _))
    · rw [if_neg e] at hb; exact i6 n m hb
  · rw [hL]; split
    · decide
    · exact i7 n
  · rw [hN] at hn
    rw [hL]
    by_cases e : inW T1.1 l n = true
    · rw [if_pos e]
    · rw [if_neg e] at hn ⊢
      by_cases e2 : n = 2 * l
      · rw [if_pos e2] at hn; cases hn
      · rw [if_neg e2] at hn; exact i8 n hn
  · rw [hN] at hy
    by_cases e : inW T1.1 l n = true
    · rw [if_pos e] at hy; cases hy
    · rw [if_neg e] at hy
      by_cases e2 : n = 2 * l
      · refine ⟨l, by show T1.2.2.2 l ≠ none; rw [h3]; exact hl, by rw [e2]; exact cvr_lf hl16, ?_⟩
        rw [hL, if_neg e]
        intro z
        have := (i6 n l z).2.1
        rw [e2, lev_lf0 l hl16] at this; omega
      · rw [if_neg e2] at hy
        obtain ⟨m, a, b, c⟩ := i9 n y hy
        exact ⟨m, a, b, by rw [hL, if_neg e]; exact c⟩
  · rw [hN] at hne ⊢
    rw [hL]
    by_cases e : inW T1.1 l n = true
    · rw [if_pos e] at hne; exact absurd (Eq.refl _) hne
    · have e2 : ¬ n = 2 * l := fun z => by rw [z, lev_lf0 l hl16] at hn; omega
      rw [if_neg e, if_neg e2] at hne ⊢
      rw [if_neg e]
      exact h4 n hn hne
  · rw [hN, if_neg fun z => hl31 m z]
    by_cases e : m = l
    · rw [if_pos (by rw [e])]
      exact Or.inr ⟨x, by rw [e]; exact hm, Eq.refl _, by rw [e]; exact ho⟩
    · rw [if_neg fun z => e (lf_ev z)]; exact h5 m
/-- removals and additions: from the tree T0 -/
def St (T0 T : TrS) (R : Nat → Bool) (pk : Nat → Option Nat) : Prop := TrI T ∧
  (∀ n, 0 < lev n → T.2.1 n ≠ none → T.2.1 n = T0.2.1 n ∧ ∀ l p, T0.2.2.2 l = some p → T.2.2.2 l = some p → hsB (T.2.2.1 n) l = hsB (T0.2.2.1 n) l) ∧
  (∀ l p, T0.2.2.2 l = some p → T.2.2.2 l = some p → T.2.1 (2 * l) = T0.2.1 (2 * l)) ∧
  (∀ l p, T0.2.2.2 l = some p → R l = true → ∀ m, T.2.2.2 m ≠ some p) ∧
  (∀ l p, T0.2.2.2 l = some p → ¬ R l = true → T.2.2.2 l = some p) ∧
  (∀ l p, T.2.2.2 l = some p → pk l = none → T0.2.2.2 l = some p) ∧
  (∀ l p, pk l ≠ none → T.2.2.2 l = some p → ∀ m, T0.2.2.2 m ≠ some p) ∧
  (∀ l, pk l ≠ none → T.2.2.2 l ≠ none ∧ ∀ n, 0 < lev n → cvr n l = true → T.2.1 n ≠ none → hsB (T.2.2.1 n) l = true)
theorem St.rfl {T : TrS} (h : TrI T) : St T T (fun _ => false) (fun _ => none) := ⟨h, fun _ _ _ => ⟨Eq.refl _, fun _ _ _ _ => Eq.refl _⟩, fun _ _ _ _ => Eq.refl _, (fun _ _ _ z => by cases z), fun _ _ h _ => h, fun _ _ h _ => h, fun _ _ z => absurd (Eq.refl _) z, fun _ z => absurd (Eq.refl _) z⟩
theorem st_rem {T0 T : TrS} {R : Nat → Bool} (h : St T0 T R (fun _ => none)) {l p : Nat} (hl : T.2.2.2 l = some p) : St T0 (remT T l) (fup R l true) (fun _ => none) := by
  obtain ⟨⟨i1, i2, i3, i4, i5, i6, i7, i8, i9⟩, h2, h3, h4, h5, h6, h7, h8⟩ := h
  have hl2 := (i3 l p hl).1
  have hp4 := p2_4 i1
  have hl16 : l < 16 := by omega
  have hN : ∀ n, (remT T l).2.1 n = if inW T.1 l n = true then none else if n = 2 * l then none else T.2.1 n := fun n => Eq.refl _
  have hL : ∀ n, (remT T l).2.2.1 n = if inW T.1 l n = true then 0 else if n = 2 * l then 0 else T.2.2.1 n := fun n => Eq.refl _
  have hP : ∀ m, (remT T l).2.2.2 m = if m = l then none else T.2.2.2 m := fun n => Eq.refl _
  have hl31 : ∀ m, inW T.1 l (2 * m) = true → False := by
    intro m z
    have h1 := inW_lev i1 hl16 z
    have := h1.1
    rw [lev_lf0 m (by omega)] at this; omega
  have hPo : ∀ m q, (remT T l).2.2.2 m = some q → m ≠ l ∧ T.2.2.2 m = some q := by
    intro m q hm
    rw [hP] at hm
    by_cases e : m = l
    · rw [if_pos e] at hm; cases hm
    · rw [if_neg e] at hm; exact ⟨e, hm⟩
  have h0l := h6 l p hl (Eq.refl _)
  refine ⟨⟨i1, fun m => ?_, fun m q hm => i3 m q (hPo m q hm).2, fun m k q hm hk => i4 m k q (hPo m q hm).2 (hPo k q hk).2, fun n y hy => ?_, fun n m hb => ?_, fun n => ?_, fun n hn => ?_, fun n y hy => ?_⟩, fun n hn hne => ?_, fun m q h0 hm => ?_, fun m q h0 hR k hk => ?_, fun m q h0 hR => ?_, fun m q hm _ => h6 m q (hPo m q hm).2 (Eq.refl _), fun _ _ z => absurd (Eq.refl _) z, fun _ z => absurd (Eq.refl _) z⟩
  · rw [hN, hP, if_neg fun z => hl31 m z]
    by_cases e : m = l
    · rw [if_pos e, if_pos (by rw [e])]
    · rw [if_neg e, if_neg fun z => e (lf_ev z)]; exact i2 m
  · rw [hN] at hy
    by_cases e : inW T.1 l n = true
    · rw [if_pos e] at hy; cases hy
    · rw [if_neg e] at hy
      by_cases e2 : n = 2 * l
      · rw [if_pos e2] at hy; cases hy
      · rw [if_neg e2] at hy; exact i5 n y hy
  · rw [hL] at hb
    by_cases e : inW T.1 l n = true
    · rw [if_pos e] at hb; exact absurd hb (hsB_no (Eq.refl _))
    · rw [if_neg e] at hb
      by_cases e2 : n = 2 * l
      · rw [if_pos e2] at hb; exact absurd hb (hsB_no (Eq.refl _))
      · rw [if_neg e2] at hb
        obtain ⟨a, b, c⟩ := i6 n m hb
        refine ⟨a, b, ?_⟩
        rw [hP]
        by_cases e3 : m = l
        · exfalso
          rw [e3] at a
          have hne : T.2.1 n ≠ none := fun z => by rw [i8 n z] at hb; exact hsB_no (Eq.refl _) hb
          cases e4 : T.2.1 n with
          | none => exact hne e4
          | some y => exact e (inW_of i1 hl16 (i5 n y e4) b a)
        · rw [if_neg e3]; exact c
  · rw [hL]
    split
    · decide
    · split
      · decide
      · exact i7 n
  · rw [hN] at hn
    rw [hL]
    by_cases e : inW T.1 l n = true
    · rw [if_pos e]
    · rw [if_neg e] at hn ⊢
      by_cases e2 : n = 2 * l
      · rw [if_pos e2]
      · rw [if_neg e2] at hn ⊢; exact i8 n hn
  · rw [hN] at hy
    by_cases e : inW T.1 l n = true
    · rw [if_pos e] at hy; cases hy
    · rw [if_neg e] at hy
      by_cases e2 : n = 2 * l
      · rw [if_pos e2] at hy; cases hy
      · rw [if_neg e2] at hy
        obtain ⟨m, a, b, c⟩ := i9 n y hy
        refine ⟨m, ?_, b, by rw [hL, if_neg e, if_neg e2]; exact c⟩
        rw [hP, if_neg]
        · exact a
        · intro e3
          rw [e3] at b
          have hn := i5 n y hy
          rcases Nat.eq_zero_or_pos (lev n) with z | z
          · exact e2 (cvr_l (by omega) hl16 z b)
          · exact e (inW_of i1 hl16 hn z b)
  · rw [hN] at hne ⊢
    by_cases e : inW T.1 l n = true
    · rw [if_pos e] at hne; exact absurd (Eq.refl _) hne
    · have e2 : ¬ n = 2 * l := fun z => by rw [z, lev_lf0 l hl16] at hn; omega
      rw [if_neg e, if_neg e2] at hne ⊢
      obtain ⟨a, b⟩ := h2 n hn hne
      refine ⟨a, fun m q h0 hm => ?_⟩
      rw [hL, if_neg e, if_neg e2]
      exact b m q h0 (hPo m q hm).2
  · obtain ⟨a, b⟩ := hPo m q hm
    rw [hN, if_neg fun z => hl31 m z, if_neg fun z => a (lf_ev z)]
    exact h3 m q h0 b
  · obtain ⟨a, b⟩ := hPo k q hk
    unfold fup at hR
    by_cases e : m = l
    · rw [e] at h0
      rw [h0l] at h0; cases h0
      exact a (i4 k l p b hl)
    · rw [if_neg e] at hR
      exact h4 m q h0 hR k b
  · unfold fup at hR
    by_cases e : m = l
    · rw [if_pos e] at hR; exact absurd (Eq.refl _) hR
    · rw [if_neg e] at hR
      rw [hP, if_neg e]; exact h5 m q h0 hR
theorem TrI.half {T : TrS} (h : TrI T) (h0 : 0 < T.1) (hb : bare T.2.2.2 T.1 (2 ^ (T.1 - 1)) = true) : TrI (halfT T) := by
  obtain ⟨i1, i2, i3, i4, i5, i6, i7, i8, i9⟩ := h
  have hp4 := p2_4 i1
  obtain ⟨d, hd⟩ : ∃ d, T.1 = d + 1 := ⟨T.1 - 1, by omega⟩
  have hpd : 2 ^ T.1 = 2 * 2 ^ d := by rw [hd, Nat.pow_succ]; omega
  have hpo := Nat.two_pow_pos d
  have hN : ∀ n, (halfT T).2.1 n = if inH T.1 n = true then none else T.2.1 n := fun n => Eq.refl _
  have hL : ∀ n, (halfT T).2.2.1 n = if inH T.1 n = true then 0 else T.2.2.1 n := fun n => Eq.refl _
  have hP : ∀ n, (halfT T).2.2.2 n = T.2.2.2 n := fun n => Eq.refl _
  have h1 : (halfT T).1 = d := by show T.1 - 1 = d; omega
  have hup : ∀ l p, T.2.2.2 l = some p → l < 2 ^ d := by
    intro l p hl
    have h2 := (i3 l p hl).1
    rcases Nat.lt_or_ge l (2 ^ d) with z | z
    · exact z
    · exfalso
      unfold bare at hb
      rw [List.all_eq_true] at hb
      have := hb (l - 2 ^ d) (List.mem_range.mpr (by rw [hd]; show l - 2 ^ d < 2 ^ d; omega))
      rw [hd, show d + 1 - 1 = d by omega, show 2 ^ d + (l - 2 ^ d) = l by omega, hl] at this
      cases this
  have hH : ∀ n, inH T.1 n = true ↔ 2 * 2 ^ d - 1 ≤ n ∧ n < 2 * 2 ^ T.1 - 1 := by
    intro n; unfold inH; rw [hpd]; simp
  refine ⟨by rw [h1]; omega, fun l => ?_, fun l p hl => ?_, i4, fun n x hx => ?_, fun n l hb2 => ?_, fun n => ?_, fun n hn => ?_, fun n x hx => ?_⟩
  · rw [hP, hN, i2]
    by_cases e : inH T.1 (2 * l) = true
    · rw [if_pos e]
      refine ⟨fun _ => Eq.refl _, fun _ => ?_⟩
      rw [← i2]
      cases e2 : T.2.2.2 l with
      | none => exact Eq.refl _
      | some p => have := hup l p e2; have := (hH _).mp e; omega
    · rw [if_neg e]
  · rw [h1]; exact ⟨hup l p hl, (i3 l p hl).2⟩
  · rw [hN] at hx
    rw [h1]
    by_cases e : inH T.1 n = true
    · rw [if_pos e] at hx; cases hx
    · rw [if_neg e] at hx
      have := i5 n x hx
      rcases Nat.lt_or_ge n (2 * 2 ^ d - 1) with z | z
      · exact z
      · exact absurd ((hH n).mpr ⟨z, this⟩) e
  · rw [hL] at hb2
    by_cases e : inH T.1 n = true
    · rw [if_pos e] at hb2; exact absurd hb2 (hsB_no (Eq.refl _))
    · rw [if_neg e] at hb2; exact i6 n l hb2
  · rw [hL]
    split
    · decide
    · exact i7 n
  · rw [hN] at hn
    rw [hL]
    by_cases e : inH T.1 n = true
    · rw [if_pos e]
    · rw [if_neg e] at hn ⊢; exact i8 n hn
  · rw [hN] at hx
    by_cases e : inH T.1 n = true
    · rw [if_pos e] at hx; cases hx
    · rw [if_neg e] at hx
      obtain ⟨m, a, b, c⟩ := i9 n x hx
      exact ⟨m, a, b, by rw [hL, if_neg e]; exact c⟩
theorem st_half {T0 T : TrS} {R : Nat → Bool} {pk : Nat → Option Nat} (h : St T0 T R pk) (h0 : 0 < T.1) (hb : bare T.2.2.2 T.1 (2 ^ (T.1 - 1)) = true) : St T0 (halfT T) R pk := by
  obtain ⟨hI, h2, h3, h4, h5, h6, h7, h8⟩ := h
  have hI2 := hI.half h0 hb
  have hN : ∀ n, (halfT T).2.1 n ≠ none → (halfT T).2.1 n = T.2.1 n ∧ (halfT T).2.2.1 n = T.2.2.1 n := by
    intro n hn
    have e1 : (halfT T).2.1 n = if inH T.1 n = true then none else T.2.1 n := Eq.refl _
    have e2 : (halfT T).2.2.1 n = if inH T.1 n = true then 0 else T.2.2.1 n := Eq.refl _
    rw [e1] at hn
    by_cases e : inH T.1 n = true
    · rw [if_pos e] at hn; exact absurd (Eq.refl _) hn
    · rw [e1, e2, if_neg e, if_neg e]; exact ⟨Eq.refl _, Eq.refl _⟩
  refine ⟨hI2, fun n hn hne => ?_, fun l p h0 hl => ?_, h4, h5, h6, h7, fun l hl => ⟨(h8 l hl).1, fun n hn hc hne => ?_⟩⟩
  · obtain ⟨a, b⟩ := hN n hne
    rw [a] at hne ⊢
    rw [b]
    exact h2 n hn hne
  · have e : (halfT T).2.1 (2 * l) ≠ none := fun z => by
      have := (hI2.2.1 l).mpr z
      have hl : T.2.2.2 l = some p := hl
      have this : T.2.2.2 l = none := this
      rw [hl] at this; cases this
    rw [(hN _ e).1]
    exact h3 l p h0 hl
  · obtain ⟨a, b⟩ := hN n hne
    rw [b]
    rw [a] at hne
    exact (h8 l hl).2 n hn hc hne
theorem st_hlvF {T0 : TrS} {R : Nat → Bool} {pk : Nat → Option Nat} : ∀ (f : Nat) {T : TrS}, St T0 T R pk → St T0 (hlvF f T) R pk
  | 0, T, h => h
  | f + 1, T, h => by
    unfold hlvF
    by_cases e : 0 < T.1 ∧ bare T.2.2.2 T.1 (2 ^ (T.1 - 1)) = true
    · rw [if_pos e]; exact st_hlvF f (st_half h e.1 e.2)
    · rw [if_neg e]; exact h
theorem st_hlv {T0 T : TrS} {R : Nat → Bool} {pk : Nat → Option Nat} (h : St T0 T R pk) : St T0 (hlv T) R pk := st_hlvF _ h
