set_option maxRecDepth 100000
/-! ===== a commit: what is wanted ===== -/
theorem ly_cv {ss tt : List Sec} {T U : TrS} {own k s : Nat} (hI : TrI T) (hQ : TrQ ss tt T U) (ho : own < 16) (hk : k < 4) : (cov T (asd own k)).length ≤ 10 ∧ (∀ n ∈ cov T (asd own k), n < 31 ∧ ∃ h, (setN (blkN T (nab own (k + 1))) (nab own (k + 1)) s).2.1 n = some h ∧ h < ss.length) ∧ ∀ n ∈ cov U (asd own k), n < 31 ∧ ∃ h, (setN (blkN U (nab own (k + 1))) (nab own (k + 1)) s).2.1 n = some h ∧ h < tt.length := by
  obtain ⟨as1, as2, -⟩ := asd_f ho hk
  have key : ∀ n ∈ cov T (asd own k), n < 31 ∧ n ≠ nab own (k + 1) ∧ ∃ x y, T.2.1 n = some x ∧ U.2.1 n = some y ∧ Nq ss tt x y := by
    intro n hn
    obtain ⟨g1, g2, g3⟩ := cv_mem hI _ _ n as2 rfl hn
    refine ⟨g2, fun z => ?_, ?_⟩
    · have := g3 own ho (by rw [z]; exact cvr_self ho (by omega))
      exact ((asd_c ho hk ho).mp this).2 (cvr_self ho (by omega))
    · rcases hQ.2.1 n with ⟨z1, -⟩ | ⟨x, y, z1, z2, z3⟩
      · exact absurd z1 g1
      · exact ⟨x, y, z1, z2, z3⟩
  refine ⟨Nat.le_trans (cv_len hI _ _ as2 rfl) (cnt_10 hI _), fun n hn => ?_, fun n hn => ?_⟩
  · obtain ⟨g1, g2, x, y, g3, g4, g5⟩ := key n hn
    refine ⟨g1, x, ?_, g5.lt.1⟩
    show (if n = _ then _ else (if n = _ then _ else _)) = _
    rw [if_neg g2, if_neg g2]; exact g3
  · rw [← hQ.cov] at hn
    obtain ⟨g1, g2, x, y, g3, g4, g5⟩ := key n hn
    refine ⟨g1, y, ?_, g5.lt.2⟩
    show (if n = _ then _ else (if n = _ then _ else _)) = _
    rw [if_neg g2, if_neg g2]; exact g4
noncomputable def S0K (C : KsS) (r : PeS) (T4 : TrS) : LyS := (setN T4 (2 * pLf r) (zSs C).length, zSs C ++ [drw (zZz C)], zBx C, (zSs C).length, fup (pNd r) (2 * pLf r) (some (zSs C).length), fun _ => none, fun _ => none)
noncomputable def S0M (D : MdS) (q : MpS) (U4 : TrS) : LmS := (setN U4 (2 * mLf q) (dSs D).length, dSs D ++ [drw (dZz D)], dBx D, (dSs D).length, fun _ => false)
/-- the stages of a commit, one after the other: what is known when all has been laid -/
def CmL (C : KsS) (D : MdS) (i : Nat) (r : PeS) (q : MpS) (T4 : TrS) (fr : Nat) (pk : Nat → Option Nat) (U4 : TrS) (y : Nm) (L : LyS) (V : LmS) : Prop :=
  layK (pLf r) fr (S0K C r T4) T4.1 = L ∧ layM (mLf q) pk (S0M D q U4) U4.1 = V ∧ LyI (zSs C ++ [drw (zZz C)]) (dSs D ++ [drw (dZz D)]) (zBx C) (dBx D) T4 (pLf r) fr (zSs C).length y (fup (pNd r) (2 * pLf r) (some (zSs C).length)) T4.1 L V ∧
  At (zSs C ++ [drw (zZz C)]) (zSs C).length y ∧
  (∀ k, k < T4.1 → (cov (layK (pLf r) fr (S0K C r T4) k).1 (asd (pLf r) k)).length ≤ 40) ∧
  (∀ k, k < T4.1 → ∀ s, s = (frm (layK (pLf r) fr (S0K C r T4) k).2.1 ((layK (pLf r) fr (S0K C r T4) k).2.2.2.1, none, 2)).2 → ∀ n ∈ cov (layK (pLf r) fr (S0K C r T4) k).1 (asd (pLf r) k), n < 31 ∧ ∃ h, (setN (blkN (layK (pLf r) fr (S0K C r T4) k).1 (nab (pLf r) (k + 1))) (nab (pLf r) (k + 1)) s).2.1 n = some h ∧ h < (layK (pLf r) fr (S0K C r T4) k).2.1.length) ∧
  (∀ k, k ≤ T4.1 → (layK (pLf r) fr (S0K C r T4) k).2.2.2.1 < (layK (pLf r) fr (S0K C r T4) k).2.1.length) ∧
  (∀ k, k < U4.1 → (cov (layM (mLf q) pk (S0M D q U4) k).1 (asd (mLf q) k)).length ≤ 40) ∧
  (∀ k, k < U4.1 → ∀ s, s = (frm (layM (mLf q) pk (S0M D q U4) k).2.1 ((layM (mLf q) pk (S0M D q U4) k).2.2.2.1, none, 2)).2 → ∀ n ∈ cov (layM (mLf q) pk (S0M D q U4) k).1 (asd (mLf q) k), n < 31 ∧ ∃ h, (setN (blkN (layM (mLf q) pk (S0M D q U4) k).1 (nab (mLf q) (k + 1))) (nab (mLf q) (k + 1)) s).2.1 n = some h ∧ h < (layM (mLf q) pk (S0M D q U4) k).2.1.length) ∧
  (∀ k, k ≤ U4.1 → (layM (mLf q) pk (S0M D q U4) k).2.2.2.1 < (layM (mLf q) pk (S0M D q U4) k).2.1.length) ∧ ∀ k, k < U4.1 → LtB (layM (mLf q) pk (S0M D q U4) k).1
theorem cm_l {C : KsS} {D : MdS} (h : Inv C D) (hC : KsB C) {i : Nat} {r : PeS} {q : MpS} {T4 U4 : TrS} {fr : Nat} {pk : Nat → Option Nat} (hlf : mLf q = pLf r) (hI4 : TrI T4) (hQ4 : TrQ (zSs C) (dSs D) T4 U4) (ho : T4.2.2.2 (pLf r) ≠ none) (hfp : ∀ l, hsB fr l = true ↔ pk l ≠ none) : ∃ y L V, CmL C D i r q T4 fr pk U4 y L V := by
  have hz := h.2.2.1
  have hC1 := hC.1
  obtain ⟨a1, a2⟩ := h.1.drw2 (zZz C)
  have aO := SsOk.drw2 h.2.1 (zZz C)
  have e0 : dSs D ++ [drw (zZz C)] = dSs D ++ [drw (dZz D)] := by rw [hz]
  rw [e0] at a1 a2 aO
  obtain ⟨y, hn0, hm0⟩ := id a2
  have hp4 := p2_4 hI4.1
  have hI41 := hI4.1
  have ho2 := lf_of hI4 ho
  have hl1 : (zSs C ++ [drw (zZz C)]).length = (zSs C).length + 1 := by rw [List.length_append]; rfl
  have hrun := fun k (hk : k ≤ T4.1) => ly_run (N0 := fup (pNd r) (2 * pLf r) (some (zSs C).length)) a1 aO (h.bq.up Pf.snoc Pf.snoc) (hQ4.up Pf.snoc Pf.snoc) hI4 ho hn0 hm0 hfp (by omega) k hk
  have hUd : U4.1 = T4.1 := hQ4.1.symm
  have eM : S0M D q U4 = ((setN U4 (2 * pLf r) (dSs D).length, dSs D ++ [drw (dZz D)], dBx D, (dSs D).length, fun _ => false) : LmS) := by unfold S0M; rw [hlf]
  have hc := fun k (hk : k < T4.1) s => ly_cv (s := s) (hrun k (by omega)).2.2.1.2.1 (hrun k (by omega)).2.2.1.1 (show pLf r < 16 by omega) (show k < 4 by omega)
  have hcM : ∀ k, k < T4.1 → (cov (layM (pLf r) pk ((setN U4 (2 * pLf r) (dSs D).length, dSs D ++ [drw (dZz D)], dBx D, (dSs D).length, fun _ => false) : LmS) k).1 (asd (pLf r) k)).length ≤ 10 := fun k hk => by
    have := (hc k hk 0).1
    rw [(hrun k (by omega)).2.2.1.1.cov] at this
    exact this
  refine ⟨y, _, _, rfl, rfl, ?_, hn0, fun k hk => Nat.le_trans (hc k hk 0).1 (by decide), fun k hk s _ => (hc k hk s).2.1, fun k hk => (hrun k hk).2.2.2.2.2.1.1.lt, fun k hk => ?_, fun k hk s _ => ?_, fun k hk => ?_, fun k hk => ?_⟩
  · rw [hUd, eM, hlf]
    exact hrun T4.1 (Nat.le_refl _)
  · rw [eM, hlf]; exact Nat.le_trans (hcM k (by omega)) (by decide)
  · rw [eM, hlf]; exact (hc k (by omega) s).2.2
  · rw [eM, hlf]; exact (hrun k (by omega)).2.2.2.2.2.1.2.lt
  · rw [eM, hlf]; exact LtB_q (hrun k (by omega)).2.2.1.2.1 (hrun k (by omega)).2.2.1.1
