set_option maxRecDepth 100000
/-! ===== going on ===== -/
theorem hsB_0 (l : Nat) : hsB 0 l = false := by unfold hsB; simp
theorem late_lf {T : TrS} (h : TrI T) {l : Nat} (hl : l < 16) (k : Nat) : ¬ hsB (T.2.2.1 (2 * l)) k = true := fun z => by have := (h.2.2.2.2.2.1 (2 * l) k z).2.1; rw [lev_lf0 l hl] at this; omega
theorem TrI.nd {T : TrS} (h : TrI T) {n x : Nat} (hx : T.2.1 n = some x) : n < 31 := nd_31 h.1 (h.2.2.2.2.1 n x hx)
theorem hj_clm {T : TrS} (h : TrI T) {c m own : Nat} {N : Nat → Option Nat} (hc : c < 2 ^ T.1) (ho : own < 2 ^ T.1) (he : own / 2 ^ m = c / 2 ^ m) (hl : ∀ n, cvr n c = true → T.2.2.1 n = 0) (hN : ∀ n x, n < 2 * 2 ^ T.1 - 1 → T.2.1 n = some x → ¬ (m ≤ lev n ∧ n = nab c (lev n)) → (N n = some x ↔ cvr n own = true ∧ ¬ hsB (T.2.2.1 n) own = true)) : HJ T own (drpF T (clmN T c m T.1 N)) := by
  have hp := p2_4 h.1
  intro n
  by_cases hn : n < 2 * 2 ^ T.1 - 1
  · cases hx : T.2.1 n with
    | none =>
      have e1 : drpF T (clmN T c m T.1 N) n = none := by
        unfold drpF
        split
        · rename_i z; rw [← z.2, hx]
        · rfl
      rw [e1]
      split <;> rfl
    | some x =>
      have key : clmN T c m T.1 N n = some x ↔ cvr n own = true ∧ ¬ hsB (T.2.2.1 n) own = true := by
        have hlv := lev_le h.1 hn
        have hT4 := h.1
        by_cases a : m ≤ lev n ∧ n = nab c (lev n)
        · have h1 : clmN T c m T.1 N n = some x := by unfold clmN; rw [if_pos ⟨a.1, hlv, a.2, by rw [hx]; simp⟩, hx]
          have h2 : cvr n own = true := by
            rw [a.2]
            exact (cvr_nab (by omega) (by omega) (by omega)).mpr (dv_mo he a.1)
          have h3 : cvr n c = true := by rw [a.2]; exact cvr_self (by omega) (by omega)
          rw [hl n h3, hsB_0]
          exact ⟨fun _ => ⟨h2, by simp⟩, fun _ => h1⟩
        · have h1 : clmN T c m T.1 N n = N n := by unfold clmN; rw [if_neg]; rintro ⟨b1, b2, b3, b4⟩; exact a ⟨b1, b3⟩
          rw [h1]
          exact hN n x hn hx a
      by_cases hk : clmN T c m T.1 N n = some x
      · have hk2 := key.mp hk
        rw [if_pos ⟨hk2.1, hn, hk2.2⟩]
        unfold drpF
        rw [if_pos ⟨hn, by rw [hx, hk]⟩, hk]
      · have hk2 := fun z => hk (key.mpr z)
        rw [if_neg fun z => hk2 ⟨z.1, z.2.2⟩]
        unfold drpF
        rw [if_neg]
        rintro ⟨b1, b2⟩
        rw [hx] at b2; exact hk b2.symm
  · rw [if_neg fun z => hn z.2.1]
    unfold drpF
    rw [if_neg fun z => hn z.1]
theorem go_own {T0 T : TrS} {r : PeS} {own x : Nat} (h0 : TrI T0) (ho : own < 2 ^ T0.1) (hj : HJ T0 own (pNd r)) (hx : T.2.1 (2 * own) = some x) (hr : T.2.1 (2 * own) = T0.2.1 (2 * own) ∨ T.2.1 (2 * own) = pRn r) : rnN T r own (2 * own) = some x := by
  have hp := p2_4 h0.1
  have h04 := h0.1
  unfold rnN
  by_cases a : T.2.1 (2 * own) = pRn r ∧ pRn r ≠ none
  · rw [if_pos a]
    unfold fup
    rw [if_pos rfl, ← a.1, hx]
  · rw [if_neg a]
    have h1 := hj (2 * own)
    rw [if_pos ⟨cvr_lf (by omega), by omega, late_lf h0 (by omega) own⟩] at h1
    rw [h1]
    rcases hr with z | z
    · rw [← z, hx]
    · exact absurd ⟨z, by rw [← z, hx]; simp⟩ a
theorem go_N {T0 T : TrS} {s : StS} {E : MeS} {r : PeS} {own i m : Nat} (h0 : TrI T0) (h : TrI T) (hE : StE T0 T s E) (hj : HJ T0 own (pNd r)) (hi0 : T0.2.2.2 own = some i) (hi : T.2.2.2 own = some i) (hr : T.2.1 (2 * own) = T0.2.1 (2 * own) ∨ T.2.1 (2 * own) = pRn r) (hm : own / 2 ^ m ≠ s.1 / 2 ^ m) : ∀ n x, n < 2 * 2 ^ T.1 - 1 → T.2.1 n = some x → ¬ (m + 1 ≤ lev n ∧ n = nab s.1 (lev n)) → (rnN T r own n = some x ↔ cvr n own = true ∧ ¬ hsB (T.2.2.1 n) own = true) := by
  have hp := p2_4 h.1
  have h04 := h0.1
  have hT4 := h.1
  have ho := (h.2.2.1 own i hi).1
  have ho0 := (h0.2.2.1 own i hi0).1
  have hc := hE.1
  intro n x hn hx hcl
  by_cases e : n = 2 * own
  · rw [e, go_own h0 ho0 hj (by rw [← e]; exact hx) hr]
    exact ⟨fun _ => ⟨cvr_lf (by omega), late_lf h (by omega) own⟩, fun _ => rfl⟩
  · have h1 : rnN T r own n = pNd r n := by
      unfold rnN
      split
      · unfold fup; rw [if_neg e]
      · rfl
    rw [h1, hj n]
    by_cases hv : cvr n own = true
    · have hn31 : n < 31 := by omega
      have hnv := nab_of hn31 (by omega) hv
      have hl0 : 0 < lev n := by
        rcases Nat.eq_zero_or_pos (lev n) with z | z
        · rw [z, nab_0] at hnv; exact absurd hnv e
        · exact z
      have hlv := lev_le h.1 hn
      have hnc : ¬ cvr n s.1 = true := by
        intro z
        refine hcl ⟨?_, nab_of hn31 (by omega) z⟩
        rcases Nat.lt_or_ge (lev n) (m + 1) with y | y
        · exfalso
          have z2 := nab_of hn31 (by omega) z
          have z3 : own / 2 ^ lev n = s.1 / 2 ^ lev n := by
            rw [z2] at hv
            exact (cvr_nab (by omega) (by omega) (by omega)).mp hv
          exact hm (dv_mo z3 (by omega))
        · exact y
      obtain ⟨g1, g2⟩ := hE.2.2.1 n hl0 hn hnc (by rw [hx]; simp)
      have g3 := g2 own i hi0 hi
      rw [hx] at g1
      have hn0 := h0.2.2.2.2.1 n x g1.symm
      rw [g3, ← g1]
      by_cases hb : hsB (T0.2.2.1 n) own = true
      · rw [if_neg fun z => z.2.2 hb]
        simp [hb]
      · rw [if_pos ⟨hv, hn0, hb⟩]
        simp [hb, hv]
    · rw [if_neg fun z => hv z.1]
      simp [hv]
/-- what KeygroveModel's member gets -/
theorem go_M {ss tt : List Sec} (hs : NmOk ss) (ht : NmOk tt) {T : TrS} {E : MeS} {q : MpS} {c m own : Nat} {N : Nat → Option Nat} (h : TrI T) (hQ : TrQ ss tt T (eTr E)) (hc : c < 2 ^ T.1) (ho : own < 2 ^ T.1) (he : own / 2 ^ (m + 1) = c / 2 ^ (m + 1)) (hW : ∀ n, eWy E n = true ↔ ∃ m, m < T.1 ∧ n = nab c (m + 1) ∧ T.2.1 n ≠ none) (hN : ∀ n, 0 < lev n → Oq ss tt (N n) (mNd q n)) (h31 : ∀ n, 31 ≤ n → mNd q n = none) (hlf : mLf q = own) : ∀ n, 0 < lev n → Oq ss tt (drpF T (clmN T c (m + 1) T.1 N) n) (mNd (getR q E (m + 1)) n) := by
  have hp := p2_4 h.1
  have hT4 := h.1
  intro n hl0
  show Oq ss tt _ (if n < 31 then getN q E (m + 1) n else mNd q n)
  by_cases hn31 : n < 31
  · rw [if_pos hn31]
    unfold getN drpF
    rw [← hQ.1]
    by_cases hn : n < 2 * 2 ^ T.1 - 1
    · have hlv := lev_le h.1 hn
      rcases hQ.2.1 n with ⟨z1, z2⟩ | ⟨x, x2, z1, z2, z3⟩
      · left
        constructor
        · split
          · rename_i z; rw [← z.2, z1]
          · rfl
        · rw [z2]
          split
          · rfl
          · rw [if_neg]; rintro ⟨-, w, -⟩; exact w rfl
      · by_cases a : m + 1 ≤ lev n ∧ n = nab c (lev n)
        · have h1 : clmN T c (m + 1) T.1 N n = some x := by unfold clmN; rw [if_pos ⟨a.1, hlv, a.2, by rw [z1]; simp⟩, z1]
          have h2 : cvr n own = true := by
            rw [a.2]
            exact (cvr_nab (by omega) (by omega) (by omega)).mpr (dv_mo he a.1)
          have hw : eWy E n = true := (hW n).mpr ⟨lev n - 1, by omega, by rw [show lev n - 1 + 1 = lev n by omega]; exact a.2, by rw [z1]; simp⟩
          rw [if_pos ⟨hn, by rw [z1, h1]⟩, h1, if_pos ⟨hn, ⟨hl0, by rw [hlf]; exact h2⟩, hw, a.1⟩, z2]
          exact Or.inr ⟨x, x2, rfl, rfl, z3⟩
        · have h1 : clmN T c (m + 1) T.1 N n = N n := by unfold clmN; rw [if_neg]; rintro ⟨b1, b2, b3, b4⟩; exact a ⟨b1, b3⟩
          have hw : ¬ (n < 2 * 2 ^ T.1 - 1 ∧ (0 < lev n ∧ cvr n (mLf q) = true) ∧ eWy E n = true ∧ m + 1 ≤ lev n) := by
            rintro ⟨-, -, w1, w2⟩
            obtain ⟨j, j1, j2, -⟩ := (hW n).mp w1
            have h3 := lev_nab c (by omega) (j + 1) (by omega)
            rw [← j2] at h3
            exact a ⟨w2, by rw [h3]; exact j2⟩
          rw [h1, if_neg hw, z1, z2]
          rcases hN n hl0 with ⟨w1, w2⟩ | ⟨y, y2, w1, w2, w3⟩
          · rw [w1, w2, if_neg (fun z => by cases z.2), if_neg (fun z => by cases z.2.2)]
            exact Or.inl ⟨rfl, rfl⟩
          · rw [w1, w2]
            by_cases e : x = y
            · have e2 : x2 = y2 := by rw [e] at z3; exact z3.r ht w3
              rw [e, e2, if_pos ⟨hn, rfl⟩, if_pos ⟨hn, by simp, rfl⟩]
              exact Or.inr ⟨y, y2, rfl, rfl, w3⟩
            · have e2 : ¬ y2 = x2 := fun z => e (by rw [z] at w3; exact z3.l hs w3)
              rw [if_neg (fun z => e (Option.some.inj z.2)), if_neg (fun z => e2 (Option.some.inj z.2.2))]
              exact Or.inl ⟨rfl, rfl⟩
    · rw [if_neg fun z => hn z.1, if_neg fun z => hn z.1, if_neg fun z => hn z.1]
      exact Or.inl ⟨rfl, rfl⟩
  · rw [if_neg hn31, h31 n (by omega)]
    unfold drpF
    rw [if_neg fun z => by have := z.1; omega]
    exact Or.inl ⟨rfl, rfl⟩
