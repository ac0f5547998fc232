set_option maxRecDepth 100000
/-! ===== laying secrets along a way, on both sides ===== -/
theorem TrI.lf {T : TrS} (h : TrI T) {l x : Nat} (hl : T.2.2.2 l ≠ none) : TrI (setN T (2 * l) x) := by
  obtain ⟨i1, i2, i3, i4, i5, i6, i7, i8, i9⟩ := h
  have hp4 := p2_4 i1
  have hl2 : l < 2 ^ T.1 := by
    cases e : T.2.2.2 l with
    | none => exact absurd e hl
    | some p => exact (i3 l p e).1
  have hN : ∀ n, (setN T (2 * l) x).2.1 n = if n = 2 * l then some x else T.2.1 n := fun n => rfl
  refine ⟨i1, fun m => ?_, i3, i4, fun n y hy => ?_, i6, i7, fun n hn => ?_, fun n y hy => ?_⟩
  · rw [hN]
    by_cases e : m = l
    · rw [if_pos (by rw [e])]
      show T.2.2.2 m = none ↔ _
      rw [e]
      exact ⟨fun z => absurd z hl, fun z => by cases z⟩
    · rw [if_neg fun z => e (lf_ev z)]; exact i2 m
  · rw [hN] at hy
    by_cases e : n = 2 * l
    · show n < 2 * 2 ^ T.1 - 1; omega
    · rw [if_neg e] at hy; exact i5 n y hy
  · rw [hN] at hn
    by_cases e : n = 2 * l
    · rw [if_pos e] at hn; cases hn
    · rw [if_neg e] at hn; exact i8 n hn
  · rw [hN] at hy
    by_cases e : n = 2 * l
    · refine ⟨l, hl, by rw [e]; exact cvr_lf (by omega), ?_⟩
      intro z
      have := (i6 n l z).2.1
      rw [e, lev_lf0 l (by omega)] at this; omega
    · rw [if_neg e] at hy; exact i9 n y hy
theorem TrI.blk {T : TrS} (h : TrI T) {n : Nat} (hn : 0 < lev n) (h31 : n < 31) : TrI (blkN T n) := by
  obtain ⟨i1, i2, i3, i4, i5, i6, i7, i8, i9⟩ := h
  have hN : ∀ m, (blkN T n).2.1 m = if m = n then none else T.2.1 m := fun n => rfl
  have hL : ∀ m, (blkN T n).2.2.1 m = if m = n then 0 else T.2.2.1 m := fun n => rfl
  refine ⟨i1, fun m => ?_, i3, i4, fun m y hy => ?_, fun m l hb => ?_, fun m => ?_, fun m hm => ?_, fun m y hy => ?_⟩
  · rw [hN, if_neg]
    · exact i2 m
    · intro e
      have : lev (2 * m) = 0 := lev_lf0 m (by omega)
      rw [e] at this; omega
  · rw [hN] at hy
    by_cases e : m = n
    · rw [if_pos e] at hy; cases hy
    · rw [if_neg e] at hy; exact i5 m y hy
  · rw [hL] at hb
    by_cases e : m = n
    · rw [if_pos e] at hb; exact absurd hb (hsB_no rfl)
    · rw [if_neg e] at hb; exact i6 m l hb
  · rw [hL]; split
    · decide
    · exact i7 m
  · rw [hN] at hm
    rw [hL]
    by_cases e : m = n
    · rw [if_pos e]
    · rw [if_neg e] at hm ⊢; exact i8 m hm
  · rw [hN] at hy
    by_cases e : m = n
    · rw [if_pos e] at hy; cases hy
    · rw [if_neg e] at hy
      obtain ⟨l, a, b, c⟩ := i9 m y hy
      exact ⟨l, a, b, by rw [hL, if_neg e]; exact c⟩
theorem TrI.lay {T : TrS} (h : TrI T) {own k s : Nat} (ho : T.2.2.2 own ≠ none) (hk : k < T.1) : TrI (setN (blkN T (nab own (k + 1))) (nab own (k + 1)) s) := by
  have h4 := h.1
  have hp4 := p2_4 h4
  have ho2 : own < 2 ^ T.1 := by
    cases e : T.2.2.2 own with
    | none => exact absurd e ho
    | some p => exact (h.2.2.1 own p e).1
  have hlv := lev_nab own (by omega) (k + 1) (by omega)
  have h31 := nab_b (k + 1) (by omega) own (by omega)
  have hlt := nab_lt h4 (show k + 1 ≤ T.1 by omega) ho2
  have hcs : cvr (nab own (k + 1)) own = true := cvr_self (by omega) (by omega)
  obtain ⟨i1, i2, i3, i4, i5, i6, i7, i8, i9⟩ := h.blk (n := nab own (k + 1)) (by omega) h31
  have hN : ∀ m, (setN (blkN T (nab own (k + 1))) (nab own (k + 1)) s).2.1 m = if m = nab own (k + 1) then some s else (blkN T (nab own (k + 1))).2.1 m := fun n => rfl
  have hL : (blkN T (nab own (k + 1))).2.2.1 (nab own (k + 1)) = 0 := by show (if _ then _ else _) = 0; rw [if_pos rfl]
  refine ⟨i1, fun m => ?_, i3, i4, fun m y hy => ?_, i6, i7, fun m hm => ?_, fun m y hy => ?_⟩
  · rw [hN, if_neg]
    · exact i2 m
    · intro e
      have : lev (2 * m) = 0 := lev_lf0 m (by omega)
      rw [e] at this; omega
  · rw [hN] at hy
    by_cases e : m = nab own (k + 1)
    · rw [e]; exact hlt
    · rw [if_neg e] at hy; exact i5 m y hy
  · rw [hN] at hm
    by_cases e : m = nab own (k + 1)
    · rw [if_pos e] at hm; cases hm
    · rw [if_neg e] at hm; exact i8 m hm
  · rw [hN] at hy
    by_cases e : m = nab own (k + 1)
    · refine ⟨own, ho, by rw [e]; exact hcs, ?_⟩
      show ¬ hsB ((blkN T (nab own (k + 1))).2.2.1 m) own = true
      rw [e, hL]; exact hsB_no rfl
    · rw [if_neg e] at hy; exact i9 m y hy
theorem pthN_cg {T U : TrS} {c : Nat} {x : Nm} : ∀ m, (∀ j, j < m → (T.2.1 (nab c (j + 1)) = none ↔ U.2.1 (nab c (j + 1)) = none)) → pthN T c x m = pthN U c x m
  | 0, _ => rfl
  | m + 1, h => by
    show (if T.2.1 (nab c (m + 1)) = none then pthN T c x m else n1 (pthN T c x m) 2) = if U.2.1 (nab c (m + 1)) = none then pthN U c x m else n1 (pthN U c x m) 2
    rw [pthN_cg m fun j hj => h j (by omega)]
    by_cases e : T.2.1 (nab c (m + 1)) = none
    · rw [if_pos e, if_pos ((h m (by omega)).mp e)]
    · rw [if_neg e, if_neg fun z => e ((h m (by omega)).mpr z)]
/-- the boxes of one level -/
def BxJ (ss : List Sec) (bx : List (Nat × Nat)) (T : TrS) (own fr : Nat) (bgF enF : Nat → Option Nat) (j : Nat) : Prop := ((∃ l, T.2.2.2 l ≠ none ∧ cvr (nab own (j + 1)) l = true ∧ ¬ cvr (nab own j) l = true) → T.2.1 (nab own (j + 1)) ≠ none) ∧ ∀ y, T.2.1 (nab own (j + 1)) = some y → ∃ bg en, bgF (nab own (j + 1)) = some bg ∧ enF (nab own (j + 1)) = some en ∧ bg ≤ en ∧ en ≤ bx.length ∧ (∀ (i : Nat) (p : Nat × Nat), bg ≤ i → i < en → bx[i]? = some p → p.2 = y) ∧ ∀ l, T.2.2.2 l ≠ none → ¬ hsB fr l = true → cvr (nab own (j + 1)) l = true → ¬ cvr (nab own j) l = true → ∃ u x q o z, StC T own l u ∧ T.2.1 u = some x ∧ bg ≤ q ∧ q < en ∧ bx[q]? = some (o, y) ∧ At ss x z ∧ At ss o (n1 z 1)
theorem BxJ.up {ss s2 : List Sec} {bx b : List (Nat × Nat)} {T U : TrS} {own fr j n : Nat} {bgF enF bgG enG : Nat → Option Nat} (hp : Pf ss s2) (hlv : 0 < lev n) (hc : cvr n own = true) (hn : n ≠ nab own (j + 1)) (hP : ∀ l, U.2.2.2 l = T.2.2.2 l) (hd : U.1 = T.1) (hN : ∀ m, m ≠ n → U.2.1 m = T.2.1 m ∧ U.2.2.1 m = T.2.2.1 m) (hl16 : ∀ l, T.2.2.2 l ≠ none → l < 16) (hb : ∀ m, m ≠ n → bgG m = bgF m ∧ enG m = enF m) (h : BxJ ss bx T own fr bgF enF j) : BxJ s2 (bx ++ b) U own fr bgG enG j := by
  obtain ⟨h1, h2⟩ := h
  have e := (hN _ (Ne.symm hn)).1
  unfold BxJ
  rw [e, (hb _ (Ne.symm hn)).1, (hb _ (Ne.symm hn)).2]
  refine ⟨fun ⟨l, a, c⟩ => h1 ⟨l, by rw [← hP]; exact a, c⟩, fun y hy => ?_⟩
  obtain ⟨bg, en, a1, a2, a3, a4, a5, a6⟩ := h2 y hy
  refine ⟨bg, en, a1, a2, a3, by rw [List.length_append]; omega, fun i p hi hi2 hp2 => a5 i p hi hi2 (get_app2 (by omega) hp2), fun l l1 l2 l3 l4 => ?_⟩
  rw [hP] at l1
  obtain ⟨u, x, q, o, z, b1, b2, b3, b4, b5, b6, b7⟩ := a6 l l1 l2 l3 l4
  have hun : u ≠ n := by
    rcases b1 with w | ⟨w1, w2, w3, w4, w5⟩
    · intro w2
      have := lev_lf0 l (hl16 l l1)
      rw [← w, w2] at this; omega
    · intro w; rw [w] at w4; exact w4 hc
  obtain ⟨e1, e2⟩ := hN u hun
  refine ⟨u, x, q, o, z, ?_, by rw [e1]; exact b2, b3, b4, get_app b5, hp.at b6, hp.at b7⟩
  unfold StC
  rw [e2, hd]; exact b1
