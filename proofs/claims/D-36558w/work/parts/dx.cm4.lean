set_option maxRecDepth 100000
/-! ===== a commit: from tree to tree ===== -/
theorem hs_z {s : Nat} (h : ∀ l, ¬ hsB s l = true) : s = 0 := by
  refine Nat.eq_of_testBit_eq fun l => ?_
  rw [Nat.zero_testBit, ← hsB_tb]
  have := h l
  simpa using this
theorem hj_drp {T : TrS} {own : Nat} {F : Nat → Option Nat} (h : ∀ n x, n < 2 * 2 ^ T.1 - 1 → T.2.1 n = some x → (F n = some x ↔ cvr n own = true ∧ ¬ hsB (T.2.2.1 n) own = true)) : HJ T own (drpF T F) := by
  intro n
  by_cases hn : n < 2 * 2 ^ T.1 - 1
  · cases hx : T.2.1 n with
    | none =>
      have e1 : drpF T F n = none := by
        unfold drpF
        split
        · rename_i z; rw [← z.2, hx]
        · rfl
      rw [e1]
      split <;> rfl
    | some x =>
      have key := h n x hn hx
      by_cases hk : F n = some x
      · have hk2 := key.mp hk
        rw [if_pos ⟨hk2.1, hn, hk2.2⟩]
        unfold drpF
        rw [if_pos ⟨hn, by rw [hx, hk]⟩, hk]
      · have hk2 := fun z => hk (key.mpr z)
        rw [if_neg fun z => hk2 ⟨z.1, z.2.2⟩]
        unfold drpF
        rw [if_neg]
        rintro ⟨b1, b2⟩
        rw [hx] at b2; exact hk b2.symm
  · rw [if_neg fun z => hn z.2.1]
    unfold drpF
    rw [if_neg fun z => hn z.1]
/-- what a lay leaves of a tree -/
theorem ly_ov {T4 T : TrS} {own n0 : Nat} (hI : TrI T) (hd : T.1 = T4.1) (ho : own < 2 ^ T.1) (h5 : ∀ n, (∀ j, j < T4.1 → n ≠ nab own (j + 1)) → T.2.1 n = (setN T4 (2 * own) n0).2.1 n ∧ T.2.2.1 n = T4.2.2.1 n) (h6 : ∀ j, j < T4.1 → T.2.2.1 (nab own (j + 1)) = 0) : (∀ n, 0 < lev n → ¬ cvr n own = true → T.2.1 n = T4.2.1 n ∧ T.2.2.1 n = T4.2.2.1 n) ∧ (∀ l, T.2.1 (2 * l) = if l = own then some n0 else T4.2.1 (2 * l)) ∧ ∀ n, cvr n own = true → T.2.2.1 n = 0 := by
  have hp4 := p2_4 hI.1
  have hI1 := hI.1
  have ho16 : own < 16 := by omega
  have hcs : ∀ j, j < T4.1 → cvr (nab own (j + 1)) own = true := fun j hj => cvr_self ho16 (by omega)
  have hlv : ∀ j, j < T4.1 → lev (nab own (j + 1)) = j + 1 := fun j hj => lev_nab own ho16 (j + 1) (by omega)
  have hlz : ∀ l, ∀ j, j < T4.1 → 2 * l ≠ nab own (j + 1) := by
    intro l j hj e
    have h1 := hlv j hj
    have h2 := nab_b (j + 1) (by omega) own ho16
    rw [← e] at h1 h2
    rw [lev_lf0 l (by omega)] at h1; omega
  refine ⟨fun n hn hc => ?_, fun l => ?_, fun n hc => ?_⟩
  · obtain ⟨a, b⟩ := h5 n fun j hj z => hc (by rw [z]; exact hcs j hj)
    refine ⟨?_, b⟩
    rw [a]
    show (if n = 2 * own then _ else _) = _
    rw [if_neg]
    intro z; rw [z, lev_lf0 own ho16] at hn; omega
  · rw [(h5 (2 * l) (hlz l)).1]
    show (if 2 * l = 2 * own then _ else _) = _
    by_cases e : l = own
    · rw [if_pos (by rw [e]), if_pos e]
    · rw [if_neg fun z => e (lf_ev z), if_neg e]
  · by_cases hn : n < 2 * 2 ^ T.1 - 1
    · have hnv := nab_of (by omega) ho16 hc
      have hlev := lev_le hI.1 hn
      rcases Nat.eq_zero_or_pos (lev n) with z | z
      · refine hs_z fun l hb => ?_
        have := (hI.2.2.2.2.2.1 n l hb).2.1
        omega
      · rw [hnv, show lev n = lev n - 1 + 1 by omega]
        exact h6 (lev n - 1) (by omega)
    · refine hI.2.2.2.2.2.2.2.1 n ?_
      cases e : T.2.1 n with
      | none => rfl
      | some x => exact absurd (hI.2.2.2.2.1 n x e) hn
theorem cm_StE {Rs : List PrS} {T0 T1 T4 T : TrS} {R : Nat → Bool} {pk : Nat → Option Nat} {own n0 i : Nat} {s : StS} {E : MeS} (hs : s.1 = own) (hR : Rn Rs own T0 T1) (hSt : St T1 T4 R pk) (hI : TrI T) (hd : T.1 = T4.1) (hP : ∀ l, T.2.2.2 l = T4.2.2.2 l) (h5 : ∀ n, (∀ j, j < T4.1 → n ≠ nab own (j + 1)) → T.2.1 n = (setN T4 (2 * own) n0).2.1 n ∧ T.2.2.1 n = T4.2.2.1 n) (h6 : ∀ j, j < T4.1 → T.2.2.1 (nab own (j + 1)) = 0) (h0 : T0.2.2.2 own = some i) (hr : ¬ R own = true) (hpk : ePk E = pk) (hrm : eRm E = R) (hwy : ∀ n, eWy E n = true ↔ ∃ j, j < T4.1 ∧ n = nab own (j + 1) ∧ T.2.1 n ≠ none) : StE T0 T s E := by
  obtain ⟨r1, r2, r3, r4, r5⟩ := hR
  obtain ⟨s1, s2, s3, s4, s5, s6, s7, s8⟩ := hSt
  have h1o : T1.2.2.2 own = some i := by rw [r3]; exact h0
  have h4o := s5 own i h1o hr
  have hTo : T.2.2.2 own = some i := by rw [hP]; exact h4o
  have ho := lf_of hI (l := own) (by rw [hTo]; simp)
  obtain ⟨o1, o2, o3⟩ := ly_ov hI hd ho h5 h6
  unfold StE
  rw [hs, hpk, hrm]
  refine ⟨ho, ⟨i, h0, hTo⟩, fun n hn hlt hc hne => ?_, o3, fun l hl n hn hcl hc hne => ?_, fun l p hl hRl m => ?_, fun l p hl hRl => ?_, fun l p hl hp => ?_, fun l hl e => ?_, fun l p hl hp m => ?_, fun n => ?_⟩
  · obtain ⟨a, b⟩ := o1 n hn hc
    rw [a] at hne ⊢
    obtain ⟨c, d⟩ := s2 n hn hne
    rw [c] at hne ⊢
    obtain ⟨e, f⟩ := r4 n hn hne
    rw [b]
    refine ⟨e, fun l p hl hl2 => ?_⟩
    rw [d l p (by rw [r3]; exact hl) (by rw [← hP]; exact hl2), f]
  · obtain ⟨a, b⟩ := o1 n hn hc
    rw [b]
    rw [a] at hne
    exact (s8 l hl).2 n hn hcl hne
  · rw [hP]; exact s4 l p (by rw [r3]; exact hl) hRl m
  · rw [hP]; exact s5 l p (by rw [r3]; exact hl) hRl
  · rw [← r3]; exact s6 l p (by rw [← hP]; exact hl) hp
  · rw [e] at hl
    exact s7 own i hl h4o own h1o
  · rw [← r3]; exact s7 l p hl (by rw [← hP]; exact hp) m
  · rw [hwy, hd]
theorem cm_StB {ss : List Sec} {bx : List (Nat × Nat)} {T : TrS} {s : StS} {E : MeS} {fr d : Nat} {pk : Nat → Option Nat} (hpk : ePk E = pk) (hfp : ∀ l, hsB fr l = true ↔ pk l ≠ none) (hd : T.1 = d) (h : ∀ j, j < d → BxJ ss bx T s.1 fr s.2.2.2.1 s.2.2.2.2 j) : StB ss bx T s E := by
  intro m hm
  obtain ⟨h1, h2⟩ := h m (by omega)
  refine ⟨h1, fun y hy => ?_⟩
  obtain ⟨bg, en, a1, a2, a3, a4, a5, a6⟩ := h2 y hy
  refine ⟨bg, en, a1, a2, a3, a4, a5, fun l l1 l2 l3 l4 => a6 l l1 (fun z => ?_) l3 l4⟩
  rw [hpk] at l2
  exact (hfp l).mp z l2
/-- what the committer holds then -/
theorem cm_HJ {T0 T4 T : TrS} {r : PeS} {own n0 : Nat} {F : Nat → Option Nat} (hI : TrI T) (hd : T.1 = T4.1) (ho : own < 2 ^ T.1) (hj : HJ T0 own (pNd r)) (h5 : ∀ n, (∀ j, j < T4.1 → n ≠ nab own (j + 1)) → T.2.1 n = (setN T4 (2 * own) n0).2.1 n ∧ T.2.2.1 n = T4.2.2.1 n) (h6 : ∀ j, j < T4.1 → T.2.2.1 (nab own (j + 1)) = 0) (hF : ∀ n, ((∃ j, j < T4.1 ∧ n = nab own (j + 1) ∧ T.2.1 n ≠ none) → F n = T.2.1 n) ∧ (¬ (∃ j, j < T4.1 ∧ n = nab own (j + 1) ∧ T.2.1 n ≠ none) → F n = fup (pNd r) (2 * own) (some n0) n)) : HJ T own (drpF T F) := by
  have hp4 := p2_4 hI.1
  have hI1 := hI.1
  obtain ⟨o1, o2, o3⟩ := ly_ov hI hd ho h5 h6
  refine hj_drp fun n x hn hx => ?_
  by_cases e : ∃ j, j < T4.1 ∧ n = nab own (j + 1) ∧ T.2.1 n ≠ none
  · have hc : cvr n own = true := by
      obtain ⟨j, j1, j2, -⟩ := e
      rw [j2]; exact cvr_self (by omega) (by omega)
    rw [(hF n).1 e, hx, o3 n hc]
    exact ⟨fun _ => ⟨hc, hsB_no rfl⟩, fun _ => rfl⟩
  · rw [(hF n).2 e]
    unfold fup
    by_cases e2 : n = 2 * own
    · rw [if_pos e2]
      have := o2 own
      rw [if_pos rfl, ← e2, hx] at this
      have hc : cvr n own = true := by rw [e2]; exact cvr_lf (by omega)
      rw [o3 n hc]
      exact ⟨fun _ => ⟨hc, hsB_no rfl⟩, fun _ => this.symm⟩
    · rw [if_neg e2]
      have hnc : ¬ cvr n own = true := by
        intro z
        have hnv := nab_of (by omega) (by omega) z
        have hlev := lev_le hI.1 hn
        rcases Nat.eq_zero_or_pos (lev n) with w | w
        · rw [w, nab_0] at hnv; exact e2 hnv
        · exact e ⟨lev n - 1, by omega, by rw [show lev n - 1 + 1 = lev n by omega]; exact hnv, by rw [hx]; simp⟩
      rw [hj n, if_neg fun z => hnc z.1]
      exact ⟨fun z => (by cases z), fun z => absurd z.1 hnc⟩
theorem cm_M {ss tt : List Sec} {T0 T4 T : TrS} {r : PeS} {q : MpS} {E : MeS} {own n0 : Nat} {F : Nat → Option Nat} (hI : TrI T) (hd : T.1 = T4.1) (ho : own < 2 ^ T.1) (hj : HJ T0 own (pNd r)) (hQ : TrQ ss tt T (eTr E)) (hlf : mLf q = own) (hno : ∀ n, 0 < lev n → (pNd r n = none ↔ mNd q n = none)) (hn0 : ∀ n, lev n = 0 → mNd q n = none) (h31 : ∀ n, 31 ≤ n → mNd q n = none) (hwy : ∀ n, eWy E n = true ↔ ∃ j, j < T4.1 ∧ n = nab own (j + 1) ∧ T.2.1 n ≠ none) (hF : ∀ n, ((∃ j, j < T4.1 ∧ n = nab own (j + 1) ∧ T.2.1 n ≠ none) → F n = T.2.1 n) ∧ (¬ (∃ j, j < T4.1 ∧ n = nab own (j + 1) ∧ T.2.1 n ≠ none) → F n = fup (pNd r) (2 * own) (some n0) n)) : (∀ n, 0 < lev n → Oq ss tt (drpF T F n) (mNd (getR q E 0) n)) ∧ ∀ n, lev n = 0 → mNd (getR q E 0) n = none := by
  have hp4 := p2_4 hI.1
  have hI1 := hI.1
  constructor
  · intro n hl0
    show Oq ss tt (drpF T F n) (if n < 31 then getN q E 0 n else mNd q n)
    by_cases hn31 : n < 31
    · rw [if_pos hn31]
      unfold getN
      rw [hlf, ← hQ.1]
      by_cases hn : n < 2 * 2 ^ T.1 - 1
      · by_cases hw : eWy E n = true
        · have hw2 := (hwy n).mp hw
          have hc : cvr n own = true := by
            obtain ⟨j, j1, j2, -⟩ := hw2
            rw [j2]; exact cvr_self (by omega) (by omega)
          rw [if_pos ⟨hn, ⟨hl0, hc⟩, hw, Nat.zero_le _⟩]
          have e1 := (hF n).1 hw2
          unfold drpF
          rw [if_pos ⟨hn, e1.symm⟩, e1]
          exact hQ.2.1 n
        · rw [if_neg fun z => hw z.2.2.1]
          have hw2 := fun z => hw ((hwy n).mpr z)
          have e1 := (hF n).2 hw2
          have e2 : n ≠ 2 * own := fun z => by rw [z, lev_lf0 own (by omega)] at hl0; omega
          unfold fup at e1
          rw [if_neg e2] at e1
          have hTn : T.2.1 n = none ∨ pNd r n = none := by
            by_cases hc : cvr n own = true
            · left
              have hnv := nab_of (by omega) (by omega) hc
              have hlev := lev_le hI.1 hn
              cases e3 : T.2.1 n with
              | none => rfl
              | some x => exact absurd ⟨lev n - 1, by omega, by rw [show lev n - 1 + 1 = lev n by omega]; exact hnv, by rw [e3]; simp⟩ hw2
            · right
              rw [hj n, if_neg fun z => hc z.1]
          rcases hTn with z | z
          · have z2 := (hQ.2.1 n).no.mp z
            rw [if_neg fun w => w.2.1 z2]
            left
            refine ⟨?_, rfl⟩
            unfold drpF
            split
            · rename_i w; rw [← w.2, z]
            · rfl
          · have z2 := (hno n hl0).mp z
            rw [z2]
            left
            refine ⟨?_, ?_⟩
            · unfold drpF
              rw [e1, z]
              split <;> rfl
            · split <;> rfl
      · rw [if_neg fun z => hn z.1, if_neg fun z => hn z.1]
        unfold drpF
        rw [if_neg fun z => hn z.1]
        exact Or.inl ⟨rfl, rfl⟩
    · rw [if_neg hn31, h31 n (by omega)]
      unfold drpF
      rw [if_neg fun z => by have := z.1; omega]
      exact Or.inl ⟨rfl, rfl⟩
  · intro n hl0
    show (if n < 31 then getN q E 0 n else mNd q n) = none
    have z1 := hn0 n hl0
    split
    · unfold getN
      rw [if_neg (fun z => by have := z.2.1.1; omega)]
      split
      · exact z1
      · rfl
    · exact z1
