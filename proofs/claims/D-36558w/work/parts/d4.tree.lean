set_option maxRecDepth 100000
/-! ===== trees: what stands where ===== -/
theorem cvr_nab0 : ∀ c, c < 16 → ∀ l, l < 16 → ∀ m, m < 5 → cvr (nab c m) l = decide (l / 2 ^ m = c / 2 ^ m) := by decide +kernel
theorem cvr_nab {c l m : Nat} (hc : c < 16) (hl : l < 16) (hm : m ≤ 4) : cvr (nab c m) l = true ↔ l / 2 ^ m = c / 2 ^ m := by
  rw [cvr_nab0 c hc l hl m (by omega)]; simp
theorem nab_of0 : ∀ n, n < 31 → ∀ l, l < 16 → (!cvr n l || decide (n = nab l (lev n))) = true := by decide +kernel
theorem nab_of {n l : Nat} (hn : n < 31) (hl : l < 16) (h : cvr n l = true) : n = nab l (lev n) := by
  have h0 := nab_of0 n hn l hl
  simpa [h] using h0
theorem cvr_self {l m : Nat} (hl : l < 16) (hm : m ≤ 4) : cvr (nab l m) l = true := (cvr_nab hl hl hm).mpr rfl
theorem cvr_lf {l : Nat} (hl : l < 16) : cvr (2 * l) l = true := by have := cvr_self hl (m := 0) (by omega); rwa [nab_0] at this
theorem lev_lf0 : ∀ l, l < 16 → lev (2 * l) = 0 := by decide +kernel
theorem nab_lt0 : ∀ d, d < 5 → ∀ m, m < 5 → ∀ l, l < 16 → (!decide (l < 2 ^ d) || !decide (m ≤ d) || decide (nab l m < 2 * 2 ^ d - 1)) = true := by decide +kernel
theorem nab_lt {d m l : Nat} (hd : d ≤ 4) (hm : m ≤ d) (hl : l < 2 ^ d) : nab l m < 2 * 2 ^ d - 1 := by
  have h := nab_lt0 d (by omega) m (by omega) l (by have := p2_4 hd; omega)
  simpa [hl, hm] using h
theorem lev_le0 : ∀ d, d < 5 → ∀ n, n < 31 → (!decide (n < 2 * 2 ^ d - 1) || decide (lev n ≤ d)) = true := by decide +kernel
theorem lev_le {d n : Nat} (hd : d ≤ 4) (hn : n < 2 * 2 ^ d - 1) : lev n ≤ d := by
  have h := lev_le0 d (by omega) n (by have := p2_4 hd; omega)
  simpa [hn] using h
theorem nab_inj {l m k : Nat} (hl : l < 16) (hm : m ≤ 4) (hk : k ≤ 4) (h : nab l m = nab l k) : m = k := by
  have h1 := lev_nab l hl m (by omega)
  have h2 := lev_nab l hl k (by omega)
  rw [h] at h1; omega
theorem dv_mo {a b m k : Nat} (h : a / 2 ^ m = b / 2 ^ m) (hk : m ≤ k) : a / 2 ^ k = b / 2 ^ k := by
  obtain ⟨j, rfl⟩ := Nat.le.dest hk
  rw [Nat.pow_add, ← Nat.div_div_eq_div_mul, ← Nat.div_div_eq_div_mul, h]
/-- the level at which two leaves meet -/
theorem meet_at {d a b : Nat} (ha : a < 2 ^ d) (hb : b < 2 ^ d) (h : a ≠ b) : ∃ m, m < d ∧ a / 2 ^ (m + 1) = b / 2 ^ (m + 1) ∧ a / 2 ^ m ≠ b / 2 ^ m := by
  induction d with
  | zero => omega
  | succ d ih =>
    by_cases e : a / 2 ^ d = b / 2 ^ d
    · clear ih
      have key : ∀ k, a / 2 ^ k = b / 2 ^ k → ∃ m, m < k ∧ a / 2 ^ (m + 1) = b / 2 ^ (m + 1) ∧ a / 2 ^ m ≠ b / 2 ^ m := by
        intro k
        induction k with
        | zero => intro z; simp at z; exact absurd z h
        | succ k ih =>
          intro z
          by_cases e2 : a / 2 ^ k = b / 2 ^ k
          · obtain ⟨m, h1, h2⟩ := ih e2
            exact ⟨m, by omega, h2⟩
          · exact ⟨k, by omega, z, e2⟩
      obtain ⟨m, h1, h2⟩ := key d e
      exact ⟨m, by omega, h2⟩
    · exact ⟨d, by omega, by rw [Nat.div_eq_of_lt ha, Nat.div_eq_of_lt hb], e⟩
theorem lof_q {T : TrS} (h : TrI T) {l p : Nat} (hl : T.2.2.2 l = some p) : lof T p = some l := lof_s (h.2.2.1 l p hl).1 hl fun i hi e => by have := h.2.2.2.1 i l p e hl; omega
theorem lof_no {T : TrS} (h : TrI T) {p : Nat} (hl : lof T p = none) (l : Nat) : T.2.2.2 l ≠ some p := fun e => by rw [lof_q h e] at hl; cases hl
theorem mtg_at {T : TrS} {c o m : Nat} (hT : T.1 ≤ 4) (hc : c < 2 ^ T.1) (ho : o < 2 ^ T.1) (hm : m < T.1) (h1 : o / 2 ^ (m + 1) = c / 2 ^ (m + 1)) (h2 : o / 2 ^ m ≠ c / 2 ^ m) (hn : T.2.1 (nab c (m + 1)) ≠ none) : mtg T c o = some (nab c (m + 1)) := by
  have hp := p2_4 hT
  unfold mtg wayD
  rw [List.find?_map]
  have e : (List.range T.1).find? (mtQ T o ∘ fun k => nab c (k + 1)) = some m := by
    refine find_rg hm ?_ fun i hi => ?_
    · show mtQ T o (nab c (m + 1)) = true
      unfold mtQ
      rw [(cvr_nab (by omega) (by omega) (by omega)).mpr h1, Bool.and_true]
      cases e : T.2.1 (nab c (m + 1)) with
      | none => exact absurd e hn
      | some x => rfl
    · show mtQ T o (nab c (i + 1)) = false
      unfold mtQ
      have : ¬ cvr (nab c (i + 1)) o = true := fun z => h2 (dv_mo ((cvr_nab (by omega) (by omega) (by omega)).mp z) (by omega))
      rw [Bool.not_eq_true] at this
      rw [this, Bool.and_false]
  rw [e]; rfl
/-! ===== climbing ===== -/
def clmN (T : TrS) (c m k : Nat) (N : Nat → Option Nat) (n : Nat) : Option Nat := if m ≤ lev n ∧ lev n ≤ k ∧ n = nab c (lev n) ∧ T.2.1 n ≠ none then T.2.1 n else N n
theorem clm_run {ss : List Sec} {T : TrS} {c m sc : Nat} {y : Nm} {N : Nat → Option Nat} (hs : ScOk ss) (hT : T.1 ≤ 4) (hc : c < 16) (hm0 : 0 < m) (hm : m ≤ T.1) (hsc : T.2.1 (nab c m) = some sc) (hP : ∀ j z, j ≤ T.1 → T.2.1 (nab c j) = some z → At ss z (pthN T c y j)) : ∀ k, k ≤ T.1 → (k < m → clmK T c (nab c m) ((ss, sc, false, N) : CmS) k = (ss, sc, false, N)) ∧ (m ≤ k → ∃ v, clmK T c (nab c m) ((ss, sc, false, N) : CmS) k = (ss, v, true, clmN T c m k N) ∧ At ss v (pthN T c y k))
  | 0, _ => ⟨fun _ => rfl, fun h => by omega⟩
  | k + 1, hk => by
    obtain ⟨i1, i2⟩ := clm_run (N := N) hs hT hc hm0 hm hsc hP k (by omega)
    have hlv := lev_nab c hc (k + 1) (by omega)
    constructor
    · intro h
      have hne : (nab c (k + 1) == nab c m) = false := by
        rw [beq_eq_false_iff_ne]
        intro z; have := nab_inj hc (by omega) (by omega) z; omega
      show clm1 T c (nab c m) (clmK T c (nab c m) ((ss, sc, false, N) : CmS) k) k = _
      rw [i1 (by omega)]
      unfold clm1 clmA
      simp [hne]
    · intro h
      show ∃ v, clm1 T c (nab c m) (clmK T c (nab c m) ((ss, sc, false, N) : CmS) k) k = _ ∧ _
      rcases Nat.lt_or_ge k m with z | z
      · have e : k + 1 = m := by omega
        rw [i1 z]
        refine ⟨sc, ?_, by rw [e]; exact hP m sc hm hsc⟩
        unfold clm1 clmA
        rw [e]
        simp only [beq_self_eq_true, Bool.false_or, Bool.false_eq_true, false_and, if_false]
        rw [if_pos ⟨trivial, by rw [hsc]; simp⟩]
        refine Prod.ext rfl (Prod.ext rfl (Prod.ext rfl ?_))
        funext n
        show fup N (nab c m) (some sc) n = clmN T c m m N n
        unfold fup clmN
        by_cases e2 : n = nab c m
        · rw [if_pos e2]
          have hl : lev n = m := by rw [e2, ← e]; exact hlv
          rw [if_pos ⟨by omega, by omega, by rw [hl]; exact e2, by rw [e2, hsc]; simp⟩, e2, hsc]
        · rw [if_neg e2, if_neg]
          rintro ⟨a1, a2, a3, -⟩
          have : lev n = m := by omega
          rw [this] at a3; exact e2 a3
      · obtain ⟨v, i3, i4⟩ := i2 z
        rw [i3]
        have hne : (nab c (k + 1) == nab c m) = false := by
          rw [beq_eq_false_iff_ne]
          intro z2; have := nab_inj hc (by omega) (by omega) z2; omega
        cases e : T.2.1 (nab c (k + 1)) with
        | none =>
          refine ⟨v, ?_, by unfold pthN; rw [if_pos e]; exact i4⟩
          unfold clm1 clmA
          simp only [e, ne_eq, not_true_eq_false, and_false, if_false, hne, Bool.or_false]
          refine Prod.ext rfl (Prod.ext rfl (Prod.ext rfl ?_))
          funext n
          show clmN T c m k N n = clmN T c m (k + 1) N n
          unfold clmN
          by_cases a : m ≤ lev n ∧ lev n ≤ k ∧ n = nab c (lev n) ∧ T.2.1 n ≠ none
          · rw [if_pos a, if_pos ⟨a.1, by omega, a.2.2⟩]
          · rw [if_neg a, if_neg]
            rintro ⟨b1, b2, b3, b4⟩
            by_cases e3 : lev n = k + 1
            · rw [e3] at b3; rw [b3] at b4; exact b4 e
            · exact a ⟨b1, by omega, b3, b4⟩
        | some x =>
          have hx := hP (k + 1) x hk e
          have hn : pthN T c y (k + 1) = n1 (pthN T c y k) 2 := by
            show (if T.2.1 (nab c (k + 1)) = none then _ else _) = _
            rw [if_neg (by rw [e]; simp)]
          rw [hn] at hx
          have hf := frm_s (fnd_1 hs i4 hx)
          refine ⟨x, ?_, by rw [hn]; exact hx⟩
          unfold clm1 clmA
          simp only [e, ne_eq, reduceCtorEq, not_false_eq_true, and_true, if_true, hne, Bool.or_false, hf]
          refine Prod.ext rfl (Prod.ext rfl (Prod.ext rfl ?_))
          funext n
          show fup (clmN T c m k N) (nab c (k + 1)) (some x) n = clmN T c m (k + 1) N n
          unfold fup
          by_cases e2 : n = nab c (k + 1)
          · rw [if_pos e2]
            have hl : lev n = k + 1 := by rw [e2]; exact hlv
            unfold clmN
            rw [if_pos ⟨by omega, by omega, by rw [hl]; exact e2, by rw [e2, e]; simp⟩, e2, e]
          · rw [if_neg e2]
            unfold clmN
            by_cases a : m ≤ lev n ∧ lev n ≤ k ∧ n = nab c (lev n) ∧ T.2.1 n ≠ none
            · rw [if_pos a, if_pos ⟨a.1, by omega, a.2.2⟩]
            · rw [if_neg a, if_neg]
              rintro ⟨b1, b2, b3, b4⟩
              by_cases e3 : lev n = k + 1
              · rw [e3] at b3; exact e2 b3
              · exact a ⟨b1, by omega, b3, b4⟩
/-! ===== chains ===== -/
theorem chs_run {ss : List Sec} {T : TrS} {es : Nat} {x : Nm} (hs : ScOk ss) (he : At ss es x) (hc : ∀ l, T.2.2.2 l ≠ none → n1 x (100 + l) ∈ nms ss) : ∀ k, ∃ CH, chS T es ss k = (ss, CH) ∧ ∀ l, ((l < k ∧ T.2.2.2 l ≠ none) → ∃ c, CH l = some ((c, 0, fun _ => none) : ChS) ∧ At ss c (n1 x (100 + l))) ∧ (¬ (l < k ∧ T.2.2.2 l ≠ none) → CH l = none)
  | 0 => ⟨_, rfl, fun l => ⟨fun h => absurd h.1 (Nat.not_lt_zero l), fun _ => rfl⟩⟩
  | k + 1 => by
    obtain ⟨CH, i1, i2⟩ := chs_run hs he hc k
    by_cases e : T.2.2.2 k = none
    · refine ⟨CH, by unfold chS; rw [if_pos e]; exact i1, fun l => ⟨fun h => (i2 l).1 ⟨?_, h.2⟩, fun h => (i2 l).2 fun z => h ⟨by omega, z.2⟩⟩⟩
      rcases Nat.lt_or_ge l k with z | z
      · exact z
      · have : l = k := by omega
        rw [this] at h; exact absurd e h.2
    · obtain ⟨c, hc2⟩ := At.ex (hc k e)
      have hf := frm_s (fnd_1 hs he hc2)
      refine ⟨fup CH k (some ((c, 0, fun _ => none) : ChS)), ?_, fun l => ⟨fun h => ?_, fun h => ?_⟩⟩
      · unfold chS
        rw [if_neg e, i1]
        simp only [hf]
      · unfold fup
        by_cases e2 : l = k
        · rw [if_pos e2]; exact ⟨c, rfl, by rw [e2]; exact hc2⟩
        · rw [if_neg e2]; exact (i2 l).1 ⟨by omega, h.2⟩
      · unfold fup
        by_cases e2 : l = k
        · rw [e2] at h; exact absurd ⟨by omega, e⟩ h
        · rw [if_neg e2]; exact (i2 l).2 fun z => h ⟨by omega, z.2⟩
