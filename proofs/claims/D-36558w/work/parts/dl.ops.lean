set_option maxRecDepth 100000
/-! ===== what is done to trees ===== -/
theorem hsB_tb (s l : Nat) : hsB s l = s.testBit l := by
  unfold hsB
  rw [Nat.testBit_eq_decide_div_mod_eq]
  rw [Bool.eq_iff_iff]; simp
theorem hsB_or (s l k : Nat) : hsB (s ||| 2 ^ l) k = (hsB s k || decide (k = l)) := by
  rw [hsB_tb, hsB_tb, Nat.testBit_or, Nat.testBit_two_pow]
  congr 1
  rw [Bool.eq_iff_iff]; simp [eq_comm]
theorem or_lt {s l : Nat} (hs : s < 65536) (hl : l < 16) : s ||| 2 ^ l < 65536 := Nat.or_lt_two_pow (n := 16) hs (Nat.pow_lt_pow_right (by decide) hl)
theorem inW_i {d l n : Nat} : inW d l n = true ↔ ∃ k, k < d ∧ n = nab l (k + 1) := by
  unfold inW wayD
  rw [List.contains_iff_mem, List.mem_map]
  constructor
  · rintro ⟨k, hk, h⟩; exact ⟨k, List.mem_range.mp hk, h.symm⟩
  · rintro ⟨k, hk, h⟩; exact ⟨k, List.mem_range.mpr hk, h.symm⟩
theorem inW_lev {d l n : Nat} (hd : d ≤ 4) (hl : l < 16) (h : inW d l n = true) : 0 < lev n ∧ cvr n l = true ∧ n < 31 := by
  obtain ⟨k, hk, rfl⟩ := inW_i.mp h
  exact ⟨by rw [lev_nab l hl (k + 1) (by omega)]; omega, cvr_self hl (by omega), nab_b (k + 1) (by omega) l hl⟩
theorem inW_of {d l n : Nat} (hd : d ≤ 4) (hl : l < 16) (hn : n < 2 * 2 ^ d - 1) (h0 : 0 < lev n) (hc : cvr n l = true) : inW d l n = true := by
  have hp := p2_4 hd
  have h1 := nab_of (n := n) (by omega) hl hc
  have h2 := lev_le hd hn
  exact inW_i.mpr ⟨lev n - 1, by omega, by rw [show lev n - 1 + 1 = lev n by omega]; exact h1⟩
section
variable {ss tt : List Sec} {T U : TrS}
theorem TrQ.stN (h : TrQ ss tt T U) (n : Nat) {x y : Nat} (hq : Nq ss tt x y) : TrQ ss tt (setN T n x) (setN U n y) := by
  refine ⟨h.1, fun k => ?_, h.2.2⟩
  show Oq ss tt (fup T.2.1 n (some x) k) (fup U.2.1 n (some y) k)
  unfold fup
  by_cases e : k = n
  · rw [if_pos e, if_pos e]; exact Or.inr ⟨x, y, rfl, rfl, hq⟩
  · rw [if_neg e, if_neg e]; exact h.2.1 k
theorem TrQ.blF (h : TrQ ss tt T U) (q : Nat → Bool) : TrQ ss tt (blkF T q) (blkF U q) := by
  refine ⟨h.1, fun k => ?_, fun k => ?_, h.2.2.2⟩
  · show Oq ss tt (if q k = true then none else T.2.1 k) (if q k = true then none else U.2.1 k)
    by_cases e : q k = true
    · rw [if_pos e, if_pos e]; exact Or.inl ⟨rfl, rfl⟩
    · rw [if_neg e, if_neg e]; exact h.2.1 k
  · show (if q k = true then 0 else T.2.2.1 k) = if q k = true then 0 else U.2.2.1 k
    rw [h.2.2.1]
theorem TrQ.blN (h : TrQ ss tt T U) (n : Nat) : TrQ ss tt (blkN T n) (blkN U n) := by
  refine ⟨h.1, fun k => ?_, fun k => ?_, h.2.2.2⟩
  · show Oq ss tt (fup T.2.1 n none k) (fup U.2.1 n none k)
    unfold fup
    by_cases e : k = n
    · rw [if_pos e, if_pos e]; exact Or.inl ⟨rfl, rfl⟩
    · rw [if_neg e, if_neg e]; exact h.2.1 k
  · show fup T.2.2.1 n 0 k = fup U.2.2.1 n 0 k
    unfold fup
    by_cases e : k = n
    · rw [if_pos e, if_pos e]
    · rw [if_neg e, if_neg e]; exact h.2.2.1 k
theorem TrQ.pers (h : TrQ ss tt T U) (l : Nat) (p : Option Nat) : TrQ ss tt (T.1, T.2.1, T.2.2.1, fup T.2.2.2 l p) (U.1, U.2.1, U.2.2.1, fup U.2.2.2 l p) := by
  refine ⟨h.1, h.2.1, h.2.2.1, fun k => ?_⟩
  show fup T.2.2.2 l p k = fup U.2.2.2 l p k
  unfold fup
  rw [h.2.2.2]
theorem TrQ.rem (h : TrQ ss tt T U) (l : Nat) : TrQ ss tt (remT T l) (remT U l) := by
  unfold remT
  rw [← h.1]
  exact ((h.blN (2 * l)).pers l none).blF _
theorem TrQ.lat (h : TrQ ss tt T U) (l : Nat) (q : Nat → Bool) : TrQ ss tt (latF T l q) (latF U l q) := by
  refine ⟨h.1, h.2.1, fun k => ?_, h.2.2.2⟩
  show (if q k = true ∧ T.2.1 k ≠ none then T.2.2.1 k ||| 2 ^ l else T.2.2.1 k) = if q k = true ∧ U.2.1 k ≠ none then U.2.2.1 k ||| 2 ^ l else U.2.2.1 k
  rw [h.2.2.1 k]
  by_cases e : q k = true ∧ T.2.1 k ≠ none
  · rw [if_pos e, if_pos ⟨e.1, fun z => e.2 ((h.2.1 k).no.mpr z)⟩]
  · rw [if_neg e, if_neg fun z => e ⟨z.1, fun w => z.2 ((h.2.1 k).no.mp w)⟩]
theorem TrQ.dep (h : TrQ ss tt T U) (d : Nat) : TrQ ss tt (d, T.2) (d, U.2) := ⟨rfl, h.2⟩
theorem TrQ.half (h : TrQ ss tt T U) : TrQ ss tt (halfT T) (halfT U) := by
  unfold halfT
  rw [← h.1]
  exact (h.blF (inH T.1)).dep _
theorem bare_q (h : TrQ ss tt T U) (d k : Nat) : bare T.2.2.2 d k = bare U.2.2.2 d k := by
  have e : T.2.2.2 = U.2.2.2 := funext h.2.2.2
  rw [e]
theorem hlvF_q : ∀ (f : Nat) {T U : TrS}, TrQ ss tt T U → TrQ ss tt (hlvF f T) (hlvF f U)
  | 0, T, U, h => h
  | f + 1, T, U, h => by
    unfold hlvF
    rw [← h.1, ← bare_q h]
    by_cases e : 0 < T.1 ∧ bare T.2.2.2 T.1 (2 ^ (T.1 - 1)) = true
    · rw [if_pos e, if_pos e]; exact hlvF_q f h.half
    · rw [if_neg e, if_neg e]; exact h
theorem TrQ.hv (h : TrQ ss tt T U) : TrQ ss tt (hlv T) (hlv U) := by
  unfold hlv
  rw [← h.1]
  exact hlvF_q _ h
theorem TrQ.frl (h : TrQ ss tt T U) : frlT T = frlT U := by
  unfold frlT
  rw [← h.1, funext h.2.2.2]
theorem TrQ.add (h : TrQ ss tt T U) (p : Nat) {x y : Nat} (hq : Nq ss tt x y) : TrQ ss tt (addT T p x) (addT U p y) := by
  unfold addT
  simp only []
  rw [← h.frl, ← h.1]
  have h1 := ((h.stN (2 * frlT T) hq).pers (frlT T) (some p)).dep (if frlT T = 2 ^ T.1 then T.1 + 1 else T.1)
  exact h1.lat _ _
end
