set_option maxRecDepth 100000
/-! ===== covers ===== -/
theorem kid0 : ∀ n, n < 31 → (decide (lev n = 0) || (decide (lev (lft n) + 1 = lev n) && decide (lev (rgt n) + 1 = lev n) && decide (lft n < 31) && decide (rgt n < 31))) = true := by decide +kernel
theorem kid {n : Nat} (hn : n < 31) (h0 : 0 < lev n) : lev (lft n) + 1 = lev n ∧ lev (rgt n) + 1 = lev n ∧ lft n < 31 ∧ rgt n < 31 := by
  have h := kid0 n hn
  rw [Bool.or_eq_true] at h
  rcases h with h | h
  · have := of_decide_eq_true h; omega
  · simpa [and_assoc] using h
theorem kidc0 : ∀ n, n < 31 → ∀ l, l < 16 → (decide (lev n = 0) || (cvr n l == (cvr (lft n) l || cvr (rgt n) l)) && !(cvr (lft n) l && cvr (rgt n) l)) = true := by decide +kernel
theorem kidc {n l : Nat} (hn : n < 31) (hl : l < 16) (h0 : 0 < lev n) : (cvr n l = true ↔ cvr (lft n) l = true ∨ cvr (rgt n) l = true) ∧ ¬ (cvr (lft n) l = true ∧ cvr (rgt n) l = true) := by
  have h := kidc0 n hn l hl
  have hz : decide (lev n = 0) = false := by rw [decide_eq_false_iff_not]; omega
  rw [hz, Bool.false_or, Bool.and_eq_true] at h
  obtain ⟨h1, h2⟩ := h
  rw [beq_iff_eq] at h1
  refine ⟨by rw [h1, Bool.or_eq_true], fun z => ?_⟩
  rw [z.1, z.2] at h2; cases h2
/-- leaves below a node that are taken -/
def cnt (T : TrS) (n : Nat) : Nat := ((List.range 16).filter fun l => cvr n l && (T.2.2.2 l).isSome).length
theorem cnt_kid {T : TrS} {n : Nat} (hn : n < 31) (h0 : 0 < lev n) : cnt T (lft n) + cnt T (rgt n) = cnt T n := by
  unfold cnt
  rw [← List.countP_eq_length_filter, ← List.countP_eq_length_filter, ← List.countP_eq_length_filter]
  have key : ∀ (ls : List Nat), (∀ l ∈ ls, l < 16) → ls.countP (fun l => cvr (lft n) l && (T.2.2.2 l).isSome) + ls.countP (fun l => cvr (rgt n) l && (T.2.2.2 l).isSome) = ls.countP (fun l => cvr n l && (T.2.2.2 l).isSome) := by
    intro ls
    induction ls with
    | nil => intro _; rfl
    | cons a t ih =>
      intro h
      have ih := ih fun l hl => h l (List.mem_cons_of_mem _ hl)
      obtain ⟨h1, h2⟩ := kidc hn (h a List.mem_cons_self) h0
      rw [List.countP_cons, List.countP_cons, List.countP_cons]
      cases e1 : cvr (lft n) a <;> cases e2 : cvr (rgt n) a <;> cases e3 : cvr n a <;> cases e4 : (T.2.2.2 a).isSome <;> simp_all <;> omega
  exact key _ fun l hl => List.mem_range.mp hl
theorem ltL_m {s k u : Nat} : u ∈ ltL s k ↔ ∃ l, l < k ∧ hsB s l = true ∧ u = 2 * l := by
  unfold ltL
  rw [List.mem_map]
  constructor
  · rintro ⟨l, hl, e⟩
    obtain ⟨a, b⟩ := List.mem_filter.mp hl
    exact ⟨l, List.mem_range.mp a, b, e.symm⟩
  · rintro ⟨l, a, b, e⟩
    exact ⟨l, List.mem_filter.mpr ⟨List.mem_range.mpr a, b⟩, e.symm⟩
theorem cv_mem {T : TrS} (h : TrI T) : ∀ (f n u : Nat), n < 31 → lev n = f → u ∈ covF T f n → T.2.1 u ≠ none ∧ u < 31 ∧ ∀ l, l < 16 → cvr u l = true → cvr n l = true
  | f, n, u, hn, hf, hu => by
    have hp := p2_4 h.1
    have hbase : u ∈ n :: ltL (T.2.2.1 n) (2 ^ T.1) → T.2.1 n ≠ none → T.2.1 u ≠ none ∧ u < 31 ∧ ∀ l, l < 16 → cvr u l = true → cvr n l = true := by
      intro hu hne
      rcases List.mem_cons.mp hu with e | e
      · rw [e]; exact ⟨hne, hn, fun _ _ z => z⟩
      · obtain ⟨l, a, b, e⟩ := ltL_m.mp e
        obtain ⟨b1, b2, b3⟩ := h.2.2.2.2.2.1 n l b
        refine ⟨by rw [e]; exact fun z => b3 ((h.2.1 l).mpr z), by omega, fun m hm z => ?_⟩
        have : 2 * l = 2 * m := cvr_l (by omega) hm (lev_lf0 l (by omega)) (by rw [← e]; exact z)
        rw [show m = l by omega]; exact b1
    cases f with
    | zero =>
      unfold covF at hu
      by_cases e : T.2.1 n = none
      · rw [if_pos e] at hu; cases hu
      · rw [if_neg e] at hu; exact hbase hu e
    | succ f =>
      unfold covF at hu
      by_cases e : T.2.1 n = none
      · rw [if_pos e] at hu
        have hu : u ∈ covF T f (lft n) ++ covF T f (rgt n) := hu
        obtain ⟨k1, k2, k3, k4⟩ := kid hn (by omega)
        rcases List.mem_append.mp hu with z | z
        · obtain ⟨a, b, c⟩ := cv_mem h f (lft n) u k3 (by omega) z
          exact ⟨a, b, fun l hl w => (kidc hn hl (by omega)).1.mpr (Or.inl (c l hl w))⟩
        · obtain ⟨a, b, c⟩ := cv_mem h f (rgt n) u k4 (by omega) z
          exact ⟨a, b, fun l hl w => (kidc hn hl (by omega)).1.mpr (Or.inr (c l hl w))⟩
      · rw [if_neg e] at hu; exact hbase hu e
theorem cv_hit {T : TrS} (h : TrI T) : ∀ (f n l : Nat), n < 31 → lev n = f → l < 2 ^ T.1 → T.2.2.2 l ≠ none → cvr n l = true → ∃ u, u ∈ covF T f n ∧ (u = 2 * l ∨ (0 < lev u ∧ cvr u l = true ∧ ¬ hsB (T.2.2.1 u) l = true))
  | f, n, l, hn, hf, hl, ht, hc => by
    have hp := p2_4 h.1
    have hbase : T.2.1 n ≠ none → ∃ u, u ∈ n :: ltL (T.2.2.1 n) (2 ^ T.1) ∧ (u = 2 * l ∨ (0 < lev u ∧ cvr u l = true ∧ ¬ hsB (T.2.2.1 u) l = true)) := by
      intro hne
      by_cases e : hsB (T.2.2.1 n) l = true
      · exact ⟨2 * l, List.mem_cons_of_mem _ (ltL_m.mpr ⟨l, hl, e, rfl⟩), Or.inl rfl⟩
      · refine ⟨n, List.mem_cons_self, ?_⟩
        rcases Nat.eq_zero_or_pos (lev n) with z | z
        · exact Or.inl (cvr_l hn (by omega) z hc)
        · exact Or.inr ⟨z, hc, e⟩
    cases f with
    | zero =>
      have e2 := cvr_l hn (by omega) hf hc
      have hne : T.2.1 n ≠ none := by rw [e2]; exact fun z => ht ((h.2.1 l).mpr z)
      unfold covF
      rw [if_neg hne]
      exact hbase hne
    | succ f =>
      unfold covF
      by_cases e : T.2.1 n = none
      · rw [if_pos e]
        show ∃ u, u ∈ covF T f (lft n) ++ covF T f (rgt n) ∧ _
        obtain ⟨k1, k2, k3, k4⟩ := kid hn (by omega)
        rcases (kidc hn (by omega) (by omega)).1.mp hc with z | z
        · obtain ⟨u, a, b⟩ := cv_hit h f (lft n) l k3 (by omega) hl ht z
          exact ⟨u, List.mem_append_left _ a, b⟩
        · obtain ⟨u, a, b⟩ := cv_hit h f (rgt n) l k4 (by omega) hl ht z
          exact ⟨u, List.mem_append_right _ a, b⟩
      · rw [if_neg e]; exact hbase e
theorem cv_len {T : TrS} (h : TrI T) : ∀ (f n : Nat), n < 31 → lev n = f → (covF T f n).length ≤ cnt T n
  | f, n, hn, hf => by
    have hp := p2_4 h.1
    have hbase : T.2.1 n ≠ none → (n :: ltL (T.2.2.1 n) (2 ^ T.1)).length ≤ cnt T n := by
      intro hne
      cases e : T.2.1 n with
      | none => exact absurd e hne
      | some x =>
        obtain ⟨w, w1, w2, w3⟩ := h.2.2.2.2.2.2.2.2 n x e
        have hw16 : w < 16 := by
          cases e2 : T.2.2.2 w with
          | none => exact absurd e2 w1
          | some p => exact h.leaf e2
        have hs : (w :: (List.range (2 ^ T.1)).filter (hsB (T.2.2.1 n))).Nodup := by
          refine List.nodup_cons.mpr ⟨fun z => w3 (List.mem_filter.mp z).2, List.Nodup.sublist List.filter_sublist List.nodup_range⟩
        have := List.Nodup.length_le_of_subset hs (l₂ := (List.range 16).filter fun l => cvr n l && (T.2.2.2 l).isSome) (fun l hl => by
          rw [List.mem_filter, List.mem_range, Bool.and_eq_true, Option.isSome_iff_ne_none]
          rcases List.mem_cons.mp hl with z | z
          · rw [z]; exact ⟨hw16, w2, w1⟩
          · obtain ⟨a, b⟩ := List.mem_filter.mp z
            obtain ⟨b1, -, b3⟩ := h.2.2.2.2.2.1 n l b
            have := List.mem_range.mp a
            exact ⟨by omega, b1, b3⟩)
        unfold cnt
        unfold ltL
        rw [List.length_cons] at this ⊢
        rw [List.length_map]
        exact this
    cases f with
    | zero =>
      unfold covF
      by_cases e : T.2.1 n = none
      · rw [if_pos e]; exact Nat.zero_le _
      · rw [if_neg e]; exact hbase e
    | succ f =>
      unfold covF
      by_cases e : T.2.1 n = none
      · rw [if_pos e]
        show (covF T f (lft n) ++ covF T f (rgt n)).length ≤ _
        obtain ⟨k1, k2, k3, k4⟩ := kid hn (by omega)
        have h1 := cv_len h f (lft n) k3 (by omega)
        have h2 := cv_len h f (rgt n) k4 (by omega)
        have h3 := cnt_kid (T := T) hn (by omega)
        rw [List.length_append]; omega
      · rw [if_neg e]; exact hbase e
theorem asd_f0 : ∀ l, l < 16 → ∀ k, k < 4 → (decide (lev (asd l k) = k) && decide (asd l k < 31) && (decide (asd l k = lft (nab l (k + 1)) ∧ nab l k = rgt (nab l (k + 1))) || decide (asd l k = rgt (nab l (k + 1)) ∧ nab l k = lft (nab l (k + 1))))) = true := by decide +kernel
theorem asd_f {l k : Nat} (hl : l < 16) (hk : k < 4) : lev (asd l k) = k ∧ asd l k < 31 ∧ ((asd l k = lft (nab l (k + 1)) ∧ nab l k = rgt (nab l (k + 1))) ∨ (asd l k = rgt (nab l (k + 1)) ∧ nab l k = lft (nab l (k + 1)))) := by
  have h := asd_f0 l hl k hk
  rw [Bool.and_eq_true, Bool.and_eq_true, Bool.or_eq_true] at h
  exact ⟨of_decide_eq_true h.1.1, of_decide_eq_true h.1.2, h.2.imp of_decide_eq_true of_decide_eq_true⟩
theorem asd_c {l k m : Nat} (hl : l < 16) (hk : k < 4) (hm : m < 16) : (cvr (asd l k) m = true ↔ cvr (nab l (k + 1)) m = true ∧ ¬ cvr (nab l k) m = true) := by
  obtain ⟨-, -, h⟩ := asd_f hl hk
  have hlv := lev_nab l hl (k + 1) (by omega)
  obtain ⟨h1, h2⟩ := kidc (nab_b (k + 1) (by omega) l hl) hm (by omega)
  rcases h with ⟨a, b⟩ | ⟨a, b⟩
  · rw [a, b, h1]
    exact ⟨fun z => ⟨Or.inl z, fun w => h2 ⟨z, w⟩⟩, fun ⟨z, w⟩ => z.resolve_right w⟩
  · rw [a, b, h1]
    exact ⟨fun z => ⟨Or.inr z, fun w => h2 ⟨w, z⟩⟩, fun ⟨z, w⟩ => z.resolve_left w⟩
theorem asd_n {T : TrS} {l k : Nat} (hl : l < 16) (hk : k < 4) : cnt T (nab l k) + cnt T (asd l k) = cnt T (nab l (k + 1)) := by
  obtain ⟨-, -, h⟩ := asd_f hl hk
  have hlv := lev_nab l hl (k + 1) (by omega)
  have := cnt_kid (T := T) (nab_b (k + 1) (by omega) l hl) (by omega)
  rcases h with ⟨a, b⟩ | ⟨a, b⟩ <;> rw [a, b] <;> omega
