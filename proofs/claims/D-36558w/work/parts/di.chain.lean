set_option maxRecDepth 100000
/-! ===== the chains of a new epoch ===== -/
def tkN (T : TrS) : Nat → Nat
  | 0 => 0
  | k + 1 => tkN T k + (if T.2.2.2 k = none then 0 else 1)
theorem tkN_s (T : TrS) (k : Nat) : tkN T (k + 1) = tkN T k + (if T.2.2.2 k = none then 0 else 1) := rfl
theorem chs_mk {ss : List Sec} {T : TrS} {es : Nat} {x : Nm} (hs : ScOk ss) (he : At ss es x) : ∀ k, ∃ s2 CH, chS T es ss k = (s2, CH) ∧ ScOk s2 ∧ Pf ss s2 ∧ dVs s2 = dVs ss ∧ s2.length ≤ ss.length + tkN T k ∧ (∀ n, n ∈ nms s2 ↔ n ∈ nms ss ∨ ∃ l, l < k ∧ T.2.2.2 l ≠ none ∧ n = n1 x (100 + l)) ∧ ∀ l, ((l < k ∧ T.2.2.2 l ≠ none) → ∃ c, CH l = some ((c, 0, fun _ => none) : ChS) ∧ At s2 c (n1 x (100 + l))) ∧ (¬ (l < k ∧ T.2.2.2 l ≠ none) → CH l = none)
  | 0 => ⟨ss, _, rfl, hs, Pf.rfl, rfl, Nat.le_refl _, fun n => ⟨Or.inl, fun h => h.elim id fun ⟨l, h, _⟩ => absurd h (Nat.not_lt_zero l)⟩, fun l => ⟨fun h => absurd h.1 (Nat.not_lt_zero l), fun _ => rfl⟩⟩
  | k + 1 => by
    obtain ⟨s2, CH, i1, i2, i3, i4, i5, i6, i7⟩ := chs_mk hs he k
    by_cases e : T.2.2.2 k = none
    · refine ⟨s2, CH, by unfold chS; rw [if_pos e]; exact i1, i2, i3, i4, by rw [tkN_s, if_pos e]; exact i5, fun n => ?_, fun l => ⟨fun h => (i7 l).1 ⟨?_, h.2⟩, fun h => (i7 l).2 fun z => h ⟨by omega, z.2⟩⟩⟩
      · rw [i6]
        constructor
        · rintro (z | ⟨l, h1, h2⟩)
          · exact Or.inl z
          · exact Or.inr ⟨l, by omega, h2⟩
        · rintro (z | ⟨l, h1, h2, h3⟩)
          · exact Or.inl z
          · refine Or.inr ⟨l, ?_, h2, h3⟩
            rcases Nat.lt_or_ge l k with z | z
            · exact z
            · have : l = k := by omega
              rw [this] at h2; exact absurd e h2
      · rcases Nat.lt_or_ge l k with z | z
        · exact z
        · have : l = k := by omega
          rw [this] at h; exact absurd e h.2
    · obtain ⟨s3, i, j1, j2, j3, j4, j5, j6, j7, -⟩ := fm_1 i2 (KN.i1 (l := 100 + k) (i3.at he))
      refine ⟨s3, fup CH k (some ((i, 0, fun _ => none) : ChS)), ?_, j2, i3.tr j3, by rw [j6, i4], by rw [tkN_s, if_neg e]; omega, fun n => ?_, fun l => ⟨fun h => ?_, fun h => ?_⟩⟩
      · unfold chS
        rw [if_neg e, i1]
        simp only [j1]
      · rw [j5, i6]
        constructor
        · rintro ((z | ⟨l, h1, h2⟩) | z)
          · exact Or.inl z
          · exact Or.inr ⟨l, by omega, h2⟩
          · exact Or.inr ⟨k, by omega, e, z⟩
        · rintro (z | ⟨l, h1, h2, h3⟩)
          · exact Or.inl (Or.inl z)
          · rcases Nat.lt_or_ge l k with z | z
            · exact Or.inl (Or.inr ⟨l, z, h2, h3⟩)
            · have : l = k := by omega
              rw [this] at h3; exact Or.inr h3
      · unfold fup
        by_cases e2 : l = k
        · rw [if_pos e2]; exact ⟨i, rfl, by rw [e2]; exact j4⟩
        · rw [if_neg e2]
          obtain ⟨c, c1, c2⟩ := (i7 l).1 ⟨by omega, h.2⟩
          exact ⟨c, c1, j3.at c2⟩
      · unfold fup
        by_cases e2 : l = k
        · rw [e2] at h; exact absurd ⟨by omega, e⟩ h
        · rw [if_neg e2]; exact (i7 l).2 fun z => h ⟨by omega, z.2⟩
theorem chm_mk {tt : List Sec} {T : TrS} {es : Nat} {x : Nm} (hs : ScOk tt) (ho : SsOk tt) (hel : es < 1000) (he : At tt es x) : ∀ k, k ≤ 16 → ∃ t2 CH, chM T es tt k = (t2, CH) ∧ ScOk t2 ∧ SsOk t2 ∧ Pf tt t2 ∧ dVs t2 = dVs tt ∧ t2.length ≤ tt.length + k ∧ (∀ n, n ∈ nms t2 ↔ n ∈ nms tt ∨ ∃ l, l < k ∧ T.2.1 (2 * l) ≠ none ∧ n = n1 x (100 + l)) ∧ ∀ l, ((l < k ∧ T.2.1 (2 * l) ≠ none) → ∃ c, CH l = some c ∧ At t2 c (n1 x (100 + l))) ∧ (¬ (l < k ∧ T.2.1 (2 * l) ≠ none) → CH l = none)
  | 0, _ => ⟨tt, _, rfl, hs, ho, Pf.rfl, rfl, Nat.le_refl _, fun n => ⟨Or.inl, fun h => h.elim id fun ⟨l, h, _⟩ => absurd h (Nat.not_lt_zero l)⟩, fun l => ⟨fun h => absurd h.1 (Nat.not_lt_zero l), fun _ => rfl⟩⟩
  | k + 1, hk => by
    obtain ⟨s2, CH, i1, i2, io, i3, i4, i5, i6, i7⟩ := chm_mk (T := T) hs ho hel he k (by omega)
    by_cases e : T.2.1 (2 * k) = none
    · refine ⟨s2, CH, by unfold chM; rw [if_pos e]; exact i1, i2, io, i3, i4, by omega, fun n => ?_, fun l => ⟨fun h => (i7 l).1 ⟨?_, h.2⟩, fun h => (i7 l).2 fun z => h ⟨by omega, z.2⟩⟩⟩
      · rw [i6]
        constructor
        · rintro (z | ⟨l, h1, h2⟩)
          · exact Or.inl z
          · exact Or.inr ⟨l, by omega, h2⟩
        · rintro (z | ⟨l, h1, h2, h3⟩)
          · exact Or.inl z
          · refine Or.inr ⟨l, ?_, h2, h3⟩
            rcases Nat.lt_or_ge l k with z | z
            · exact z
            · have : l = k := by omega
              rw [this] at h2; exact absurd e h2
      · rcases Nat.lt_or_ge l k with z | z
        · exact z
        · have : l = k := by omega
          rw [this] at h; exact absurd e h.2
    · obtain ⟨s3, i, j1, j2, j3, j4, j5, j6, j7, j8⟩ := fm_1 i2 (KN.i1 (l := 100 + k) (i3.at he))
      refine ⟨s3, fup CH k (some i), ?_, j2, j8 io ⟨hel, Or.inr ⟨by show 100 ≤ 100 + k; omega, by show 100 + k < 120; omega⟩⟩, i3.tr j3, by rw [j6, i4], by omega, fun n => ?_, fun l => ⟨fun h => ?_, fun h => ?_⟩⟩
      · unfold chM
        rw [if_neg e, i1]
        simp only [j1]
      · rw [j5, i6]
        constructor
        · rintro ((z | ⟨l, h1, h2⟩) | z)
          · exact Or.inl z
          · exact Or.inr ⟨l, by omega, h2⟩
          · exact Or.inr ⟨k, by omega, e, z⟩
        · rintro (z | ⟨l, h1, h2, h3⟩)
          · exact Or.inl (Or.inl z)
          · rcases Nat.lt_or_ge l k with z | z
            · exact Or.inl (Or.inr ⟨l, z, h2, h3⟩)
            · have : l = k := by omega
              rw [this] at h3; exact Or.inr h3
      · unfold fup
        by_cases e2 : l = k
        · rw [if_pos e2]; exact ⟨i, rfl, by rw [e2]; exact j4⟩
        · rw [if_neg e2]
          obtain ⟨c, c1, c2⟩ := (i7 l).1 ⟨by omega, h.2⟩
          exact ⟨c, c1, j3.at c2⟩
      · unfold fup
        by_cases e2 : l = k
        · rw [e2] at h; exact absurd ⟨by omega, e⟩ h
        · rw [if_neg e2]; exact (i7 l).2 fun z => h ⟨by omega, z.2⟩
