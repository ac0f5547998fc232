set_option maxRecDepth 100000
/-! ===== laying: the run ===== -/
def LyI (ss0 tt0 : List Sec) (bx cx : List (Nat × Nat)) (T4 : TrS) (own fr n0 : Nat) (y : Nm) (N0 : Nat → Option Nat) (k : Nat) (S : LyS) (V : LmS) : Prop :=
  (SqS S.2.1 V.2.1 ∧ SsOk V.2.1 ∧ Pf ss0 S.2.1 ∧ Pf tt0 V.2.1) ∧ (Bq S.2.1 V.2.1 S.2.2.1 V.2.2.1 ∧ (∃ b, S.2.2.1 = bx ++ b) ∧ ∃ c, V.2.2.1 = cx ++ c) ∧
  (TrQ S.2.1 V.2.1 S.1 V.1 ∧ TrI S.1 ∧ S.1.1 = T4.1 ∧ ∀ l, S.1.2.2.2 l = T4.2.2.2 l) ∧
  (∀ n, (∀ j, j < k → n ≠ nab own (j + 1)) → S.1.2.1 n = (setN T4 (2 * own) n0).2.1 n ∧ S.1.2.2.1 n = T4.2.2.1 n) ∧ (∀ j, j < k → S.1.2.2.1 (nab own (j + 1)) = 0) ∧
  (At S.2.1 S.2.2.2.1 (pthN S.1 own y k) ∧ At V.2.1 V.2.2.2.1 (pthN S.1 own y k)) ∧ (∀ m z, m ≤ k → S.1.2.1 (nab own m) = some z → At S.2.1 z (pthN S.1 own y m)) ∧
  (∀ n, V.2.2.2.2 n = true ↔ ∃ j, j < k ∧ n = nab own (j + 1) ∧ S.1.2.1 n ≠ none) ∧
  (∀ n, ((∃ j, j < k ∧ n = nab own (j + 1) ∧ S.1.2.1 n ≠ none) → S.2.2.2.2.1 n = S.1.2.1 n) ∧ (¬ (∃ j, j < k ∧ n = nab own (j + 1) ∧ S.1.2.1 n ≠ none) → S.2.2.2.2.1 n = N0 n)) ∧
  (∀ j, j < k → BxJ S.2.1 S.2.2.1 S.1 own fr S.2.2.2.2.2.1 S.2.2.2.2.2.2 j) ∧
  S.2.1.length + 1 ≤ ss0.length + k + cnt T4 (nab own k) ∧ S.2.2.1.length + 1 ≤ bx.length + cnt T4 (nab own k)
theorem lf_of {T : TrS} (h : TrI T) {l : Nat} (hl : T.2.2.2 l ≠ none) : l < 2 ^ T.1 := by
  cases e : T.2.2.2 l with
  | none => exact absurd e hl
  | some p => exact (h.2.2.1 l p e).1
theorem cnt_1 {T : TrS} {own : Nat} (ho : own < 16) (ht : T.2.2.2 own ≠ none) : 1 ≤ cnt T (nab own 0) := by
  unfold cnt
  have : own ∈ (List.range 16).filter fun l => cvr (nab own 0) l && (T.2.2.2 l).isSome := by
    rw [List.mem_filter, List.mem_range, Bool.and_eq_true, Option.isSome_iff_ne_none]
    exact ⟨ho, cvr_self ho (by omega), ht⟩
  exact List.length_pos_of_mem this
theorem ly_run {ss0 tt0 : List Sec} {bx cx : List (Nat × Nat)} {T4 U4 : TrS} {own fr n0 m0 : Nat} {y : Nm} {N0 : Nat → Option Nat} {pk : Nat → Option Nat} (hS : SqS ss0 tt0) (hO : SsOk tt0) (hB : Bq ss0 tt0 bx cx) (hQ : TrQ ss0 tt0 T4 U4) (hI : TrI T4) (ho : T4.2.2.2 own ≠ none) (hn0 : At ss0 n0 y) (hm0 : At tt0 m0 y) (hfp : ∀ l, hsB fr l = true ↔ pk l ≠ none) (hl : ss0.length ≤ 950) : ∀ k, k ≤ T4.1 → LyI ss0 tt0 bx cx T4 own fr n0 y N0 k (layK own fr ((setN T4 (2 * own) n0, ss0, bx, n0, N0, fun _ => none, fun _ => none) : LyS) k) (layM own pk ((setN U4 (2 * own) m0, tt0, cx, m0, fun _ => false) : LmS) k)
  | 0, _ => by
    have hp4 := p2_4 hI.1
    have ho16 : own < 16 := by have := lf_of hI ho; omega
    have hc := cnt_1 ho16 ho
    refine ⟨⟨hS, hO, Pf.rfl, Pf.rfl⟩, ⟨hB, ⟨[], (List.append_nil _).symm⟩, ⟨[], (List.append_nil _).symm⟩⟩, ⟨hQ.stN _ ⟨y, hn0, hm0⟩, hI.lf ho, rfl, fun _ => rfl⟩, fun n _ => ⟨rfl, rfl⟩, fun j hj => absurd hj (Nat.not_lt_zero j), ⟨hn0, hm0⟩, fun m z hm hz => ?_, fun n => ⟨fun z => Bool.noConfusion z, fun ⟨j, hj, _⟩ => absurd hj (Nat.not_lt_zero j)⟩, fun n => ⟨fun ⟨j, hj, _⟩ => absurd hj (Nat.not_lt_zero j), fun _ => rfl⟩, fun j hj => absurd hj (Nat.not_lt_zero j), ?_, ?_⟩
    · have e : m = 0 := by omega
      subst e
      rw [nab_0] at hz
      have hz : (if 2 * own = 2 * own then some n0 else T4.2.1 (2 * own)) = some z := hz
      rw [if_pos rfl] at hz; cases hz
      exact hn0
    · show ss0.length + 1 ≤ _; omega
    · show bx.length + 1 ≤ _; omega
  | k + 1, hk => by
    have hp4 := p2_4 hI.1
    have hT4 := hI.1
    have ho2 := lf_of hI ho
    have ho16 : own < 16 := by omega
    have hI0 := ly_run (N0 := N0) hS hO hB hQ hI ho hn0 hm0 hfp hl k (by omega)
    show LyI ss0 tt0 bx cx T4 own fr n0 y N0 (k + 1) (lay1 own fr (layK own fr ((setN T4 (2 * own) n0, ss0, bx, n0, N0, fun _ => none, fun _ => none) : LyS) k) k) (layM1 own pk (layM own pk ((setN U4 (2 * own) m0, tt0, cx, m0, fun _ => false) : LmS) k) k)
    generalize layK own fr ((setN T4 (2 * own) n0, ss0, bx, n0, N0, fun _ => none, fun _ => none) : LyS) k = S at *
    generalize layM own pk ((setN U4 (2 * own) m0, tt0, cx, m0, fun _ => false) : LmS) k = V at *
    obtain ⟨⟨a1, a2, a3, a4⟩, ⟨a5, ⟨b, a6⟩, ⟨c, a7⟩⟩, ⟨b1, b2, b3, b4⟩, b5, b6, ⟨b7, b8⟩, b9, c1, c2, c3, c4, c5⟩ := hI0
    obtain ⟨as1, as2, as3⟩ := asd_f ho16 (show k < 4 by omega)
    have hlv := lev_nab own ho16 (k + 1) (by omega)
    have h31 := nab_b (k + 1) (by omega) own ho16
    have hcs : cvr (nab own (k + 1)) own = true := cvr_self ho16 (by omega)
    have hinj : ∀ j, j < k → nab own (k + 1) ≠ nab own (j + 1) := fun j hj z => by have := nab_inj ho16 (show k + 1 ≤ 4 by omega) (show j + 1 ≤ 4 by omega) z; omega
    have hSt : S.1.2.2.2 own ≠ none := by rw [b4]; exact ho
    have hcnt : cnt S.1 (asd own k) = cnt T4 (asd own k) := by unfold cnt; rw [show S.1.2.2.2 = T4.2.2.2 from funext b4]
    have hcn := asd_n (T := T4) ho16 (show k < 4 by omega)
    have hcl : (cov S.1 (asd own k)).length ≤ cnt T4 (asd own k) := by rw [← hcnt]; exact cv_len b2 _ _ as2 rfl
    have hl16 : ∀ l, S.1.2.2.2 l ≠ none → l < 16 := fun l hl => by have := lf_of b2 hl; rw [b3] at this; omega
    have hcap : cnt T4 (nab own k) ≤ 16 := by
      unfold cnt
      exact Nat.le_trans (List.length_filter_le _ _) (by simp)
    have hcap2 : cnt T4 (asd own k) ≤ 16 := by
      unfold cnt
      exact Nat.le_trans (List.length_filter_le _ _) (by simp)
    have hpre : ∀ (U : TrS), (∀ m, m ≠ nab own (k + 1) → U.2.1 m = S.1.2.1 m) → ∀ m, m ≤ k → pthN U own y m = pthN S.1 own y m := fun U hU m hm => pthN_cg m fun j hj => by rw [hU _ (Ne.symm (hinj j (by omega)))]
    have hnm : ∀ m, m ≤ k → nab own m ≠ nab own (k + 1) := fun m hm z => by have := nab_inj ho16 (show m ≤ 4 by omega) (show k + 1 ≤ 4 by omega) z; omega
    by_cases e : cov S.1 (asd own k) = []
    · have eK : lay1 own fr S k = (blkN S.1 (nab own (k + 1)), S.2) := by unfold lay1; rw [if_pos e]
      have eM := layM1_n (pk := pk) (show cov V.1 (asd own k) = [] by rw [← b1.cov]; exact e)
      rw [eK, eM]
      have hN : ∀ m, (blkN S.1 (nab own (k + 1))).2.1 m = if m = nab own (k + 1) then none else S.1.2.1 m := fun _ => rfl
      have hL : ∀ m, (blkN S.1 (nab own (k + 1))).2.2.1 m = if m = nab own (k + 1) then 0 else S.1.2.2.1 m := fun _ => rfl
      have hNn : ∀ m, m ≠ nab own (k + 1) → (blkN S.1 (nab own (k + 1))).2.1 m = S.1.2.1 m := fun m hm => by rw [hN, if_neg hm]
      have hno : (blkN S.1 (nab own (k + 1))).2.1 (nab own (k + 1)) = none := by rw [hN, if_pos rfl]
      have hpk : pthN (blkN S.1 (nab own (k + 1))) own y (k + 1) = pthN S.1 own y k := by
        show (if _ then _ else _) = _
        rw [if_pos hno]; exact hpre _ hNn k (Nat.le_refl _)
      have hex : ∀ n, (∃ j, j < k + 1 ∧ n = nab own (j + 1) ∧ (blkN S.1 (nab own (k + 1))).2.1 n ≠ none) ↔ ∃ j, j < k ∧ n = nab own (j + 1) ∧ S.1.2.1 n ≠ none := by
        intro n
        constructor
        · rintro ⟨j, j1, j2, j3⟩
          have hj : j < k := by
            rcases Nat.lt_or_ge j k with z | z
            · exact z
            · exfalso
              have : j = k := by omega
              rw [j2, this] at j3; exact j3 hno
          exact ⟨j, hj, j2, by rw [j2] at j3 ⊢; rw [hNn _ (Ne.symm (hinj j hj))] at j3; exact j3⟩
        · rintro ⟨j, j1, j2, j3⟩
          exact ⟨j, by omega, j2, by rw [j2] at j3 ⊢; rw [hNn _ (Ne.symm (hinj j j1))]; exact j3⟩
      refine ⟨⟨a1, a2, a3, a4⟩, ⟨a5, ⟨b, a6⟩, ⟨c, a7⟩⟩, ⟨b1.blN _, b2.blk (by omega) h31, b3, b4⟩, fun n hn => ?_, fun j hj => ?_, ⟨by show At S.2.1 S.2.2.2.1 (pthN (blkN S.1 (nab own (k + 1))) own y (k + 1)); rw [hpk]; exact b7, by show At V.2.1 V.2.2.2.1 (pthN (blkN S.1 (nab own (k + 1))) own y (k + 1)); rw [hpk]; exact b8⟩, fun m z hm hz => ?_, fun n => (c1 n).trans (hex n).symm, fun n => ⟨fun z => ?_, fun z => ?_⟩, fun j hj => ?_, ?_, ?_⟩
      · obtain ⟨e1, e2⟩ := b5 n fun j hj => hn j (by omega)
        have e3 := hn k (by omega)
        rw [hN, hL, if_neg e3, if_neg e3]; exact ⟨e1, e2⟩
      · rw [hL]
        by_cases ej : nab own (j + 1) = nab own (k + 1)
        · rw [if_pos ej]
        · rw [if_neg ej]
          refine b6 j ?_
          rcases Nat.lt_or_ge j k with z | z
          · exact z
          · have : j = k := by omega
            rw [this] at ej; exact absurd rfl ej
      · have hz : (blkN S.1 (nab own (k + 1))).2.1 (nab own m) = some z := hz
        rcases Nat.lt_or_ge k m with w | w
        · have : m = k + 1 := by omega
          rw [this, hno] at hz; cases hz
        · rw [hNn _ (hnm m w)] at hz
          show At S.2.1 z (pthN (blkN S.1 (nab own (k + 1))) own y m)
          rw [hpre _ hNn m w]; exact b9 m z w hz
      · have z2 := (hex n).mp z
        obtain ⟨j, j1, j2, j3⟩ := z2
        show S.2.2.2.2.1 n = (blkN S.1 (nab own (k + 1))).2.1 n
        rw [(c2 n).1 ⟨j, j1, j2, j3⟩, j2, hNn _ (Ne.symm (hinj j j1))]
      · exact (c2 n).2 fun w => z ((hex n).mpr w)
      · rcases Nat.lt_or_ge j k with z | z
        · have := BxJ.up (T := S.1) (s2 := S.2.1) (b := []) (U := blkN S.1 (nab own (k + 1))) (n := nab own (k + 1)) (bgG := S.2.2.2.2.2.1) (enG := S.2.2.2.2.2.2) Pf.rfl (by omega) hcs (hinj j z) (fun _ => rfl) rfl (fun m hm => ⟨hNn m hm, by rw [hL, if_neg hm]⟩) hl16 (fun _ _ => ⟨rfl, rfl⟩) (c3 j z)
          rw [List.append_nil] at this
          exact this
        · have ej : j = k := by omega
          subst ej
          refine ⟨fun ⟨l, l1, l2, l3⟩ => ?_, fun z hz => ?_⟩
          · have l1 : S.1.2.2.2 l ≠ none := l1
            obtain ⟨u, u1, -⟩ := cv_hit b2 _ (asd own j) l as2 rfl (lf_of b2 l1) l1 ((asd_c ho16 (by omega) (hl16 l l1)).mpr ⟨l2, l3⟩)
            have : u ∈ cov S.1 (asd own j) := u1
            rw [e] at this; cases this
          · have hz : (blkN S.1 (nab own (j + 1))).2.1 (nab own (j + 1)) = some z := hz
            rw [hno] at hz; cases hz
      · show S.2.1.length + 1 ≤ _; omega
      · show S.2.2.1.length + 1 ≤ _; omega
    · obtain ⟨s2, i, t2, j0, f1, f2, d1, d2, d3, d4, d5, d6, d7⟩ := a1.fm (KN.i1 (l := 2) b7) (KN.i1 (l := 2) b8)
      have hul := a1.len
      have hbl := b8.lt
      have hO2 := d7 a2 ⟨by show V.2.2.2.1 < 1000; omega, Or.inl (by decide)⟩
      have eM := layM1_y (pk := pk) (show cov V.1 (asd own k) ≠ [] by rw [← b1.cov]; exact e) f2
      have eK : lay1 own fr S k = (setN (blkN S.1 (nab own (k + 1))) (nab own (k + 1)) i, (bxF (setN (blkN S.1 (nab own (k + 1))) (nab own (k + 1)) i) fr i (cov S.1 (asd own k)) (s2, S.2.2.1)).1, (bxF (setN (blkN S.1 (nab own (k + 1))) (nab own (k + 1)) i) fr i (cov S.1 (asd own k)) (s2, S.2.2.1)).2, i, fup S.2.2.2.2.1 (nab own (k + 1)) (some i), fup S.2.2.2.2.2.1 (nab own (k + 1)) (some S.2.2.1.length), fup S.2.2.2.2.2.2 (nab own (k + 1)) (some (bxF (setN (blkN S.1 (nab own (k + 1))) (nab own (k + 1)) i) fr i (cov S.1 (asd own k)) (s2, S.2.2.1)).2.length)) := by unfold lay1; rw [if_neg e]; simp only [f1]
      have hij : Nq s2 t2 i j0 := ⟨_, d4, d5⟩
      have hQ1 : TrQ s2 t2 (setN (blkN S.1 (nab own (k + 1))) (nab own (k + 1)) i) (setN (blkN V.1 (nab own (k + 1))) (nab own (k + 1)) j0) := (TrQ.blN (b1.up d2 d3) _).stN _ hij
      have hI1 := b2.lay (s := i) hSt (show k < S.1.1 by rw [b3]; omega)
      generalize hT1 : setN (blkN S.1 (nab own (k + 1))) (nab own (k + 1)) i = T1 at *
      generalize hU1 : setN (blkN V.1 (nab own (k + 1))) (nab own (k + 1)) j0 = U1 at *
      have hN : ∀ m, T1.2.1 m = if m = nab own (k + 1) then some i else (if m = nab own (k + 1) then none else S.1.2.1 m) := fun _ => by rw [← hT1]; rfl
      have hL : ∀ m, T1.2.2.1 m = if m = nab own (k + 1) then 0 else S.1.2.2.1 m := fun _ => by rw [← hT1]; rfl
      have hP1 : ∀ l, T1.2.2.2 l = S.1.2.2.2 l := fun _ => by rw [← hT1]; rfl
      have hd1 : T1.1 = S.1.1 := by rw [← hT1]; rfl
      have hNn : ∀ m, m ≠ nab own (k + 1) → T1.2.1 m = S.1.2.1 m := fun m hm => by rw [hN, if_neg hm, if_neg hm]
      have hns : T1.2.1 (nab own (k + 1)) = some i := by rw [hN, if_pos rfl]
      have hcvn : ∀ n ∈ cov S.1 (asd own k), n ≠ nab own (k + 1) ∧ S.1.2.1 n ≠ none := by
        intro n hn
        obtain ⟨g1, g2, g3⟩ := cv_mem b2 _ _ n as2 rfl hn
        refine ⟨fun z => ?_, g1⟩
        have := g3 own ho16 (by rw [z]; exact hcs)
        exact ((asd_c ho16 (by omega) ho16).mp this).2 (cvr_self ho16 (by omega))
      have hcov : cov V.1 (asd own k) = cov S.1 (asd own k) := (b1.cov _).symm
      rw [hcov] at eM
      have hbx := bx_run (T := T1) (U := U1) (s1 := i) (m1 := j0) hfp (cov S.1 (asd own k)) s2 t2 S.2.2.1 V.2.2.1 d1 hO2 (a5.up d2 d3) hij (fun n hn => by
        obtain ⟨g1, g2⟩ := hcvn n hn
        rcases hQ1.2.1 n with ⟨z1, z2⟩ | ⟨x, w, z1, z2, z3⟩
        · rw [hNn n g1] at z1; exact absurd z1 g2
        · exact ⟨x, w, z1, z2, z3⟩) (by omega)
      rw [eK, eM]
      generalize bxF T1 fr i (cov S.1 (asd own k)) (s2, S.2.2.1) = W at *
      generalize bxmF U1 pk j0 (cov S.1 (asd own k)) (t2, V.2.2.1) = X at *
      obtain ⟨h1, h2, h3, h4, h5, ⟨bb, h6, h7, h8⟩, ⟨cc, h9⟩, k1, k2⟩ := hbx
      have hpf := d2.tr h3
      have hpg := d3.tr h4
      have hpk : pthN T1 own y (k + 1) = n1 (pthN S.1 own y k) 2 := by
        show (if T1.2.1 (nab own (k + 1)) = none then _ else n1 (pthN T1 own y k) 2) = _
        rw [if_neg (by rw [hns]; simp), hpre _ hNn k (Nat.le_refl _)]
      have hex : ∀ n, (∃ j, j < k + 1 ∧ n = nab own (j + 1) ∧ T1.2.1 n ≠ none) ↔ n = nab own (k + 1) ∨ ∃ j, j < k ∧ n = nab own (j + 1) ∧ S.1.2.1 n ≠ none := by
        intro n
        constructor
        · rintro ⟨j, j1, j2, j3⟩
          rcases Nat.lt_or_ge j k with z | z
          · exact Or.inr ⟨j, z, j2, by rw [j2] at j3 ⊢; rw [hNn _ (Ne.symm (hinj j z))] at j3; exact j3⟩
          · have : j = k := by omega
            exact Or.inl (by rw [j2, this])
        · rintro (z | ⟨j, j1, j2, j3⟩)
          · exact ⟨k, by omega, z, by rw [z, hns]; simp⟩
          · exact ⟨j, by omega, j2, by rw [j2] at j3 ⊢; rw [hNn _ (Ne.symm (hinj j j1))]; exact j3⟩
      have hWl : W.2.length = S.2.2.1.length + bb.length := by rw [h6, List.length_append]
      refine ⟨⟨h1, h2, a3.tr hpf, a4.tr hpg⟩, ⟨h5, ⟨b ++ bb, by show W.2 = _; rw [h6, a6, List.append_assoc]⟩, ⟨c ++ cc, by show X.2 = _; rw [h9, a7, List.append_assoc]⟩⟩, ⟨hQ1.up h3 h4, hI1, by show T1.1 = _; rw [hd1]; exact b3, fun l => by show T1.2.2.2 l = _; rw [hP1]; exact b4 l⟩, fun n hn => ?_, fun j hj => ?_, ⟨by show At W.1 i (pthN T1 own y (k + 1)); rw [hpk]; exact h3.at d4, by show At X.1 j0 (pthN T1 own y (k + 1)); rw [hpk]; exact h4.at d5⟩, fun m z hm hz => ?_, fun n => ?_, fun n => ⟨fun z => ?_, fun z => ?_⟩, fun j hj => ?_, ?_, ?_⟩
      · obtain ⟨e1, e2⟩ := b5 n fun j hj => hn j (by omega)
        have e3 := hn k (by omega)
        show T1.2.1 n = _ ∧ T1.2.2.1 n = _
        rw [hNn n e3, hL, if_neg e3]; exact ⟨e1, e2⟩
      · show T1.2.2.1 (nab own (j + 1)) = 0
        rw [hL]
        by_cases ej : nab own (j + 1) = nab own (k + 1)
        · rw [if_pos ej]
        · rw [if_neg ej]
          refine b6 j ?_
          rcases Nat.lt_or_ge j k with z | z
          · exact z
          · have : j = k := by omega
            rw [this] at ej; exact absurd rfl ej
      · have hz : T1.2.1 (nab own m) = some z := hz
        show At W.1 z (pthN T1 own y m)
        rcases Nat.lt_or_ge k m with w | w
        · have : m = k + 1 := by omega
          rw [this, hns] at hz; cases hz
          rw [this, hpk]; exact h3.at d4
        · rw [hNn _ (hnm m w)] at hz
          rw [hpre _ hNn m w]; exact hpf.at (b9 m z w hz)
      · show fup V.2.2.2.2 (nab own (k + 1)) true n = true ↔ ∃ j, j < k + 1 ∧ n = nab own (j + 1) ∧ T1.2.1 n ≠ none
        rw [hex, ← c1]
        unfold fup
        by_cases ee : n = nab own (k + 1)
        · rw [if_pos ee]; exact ⟨fun _ => Or.inl ee, fun _ => rfl⟩
        · rw [if_neg ee]; exact ⟨Or.inr, fun z => z.resolve_left ee⟩
      · have z2 := (hex n).mp z
        show fup S.2.2.2.2.1 (nab own (k + 1)) (some i) n = T1.2.1 n
        unfold fup
        by_cases ee : n = nab own (k + 1)
        · rw [if_pos ee, ee, hns]
        · rw [if_neg ee, hNn n ee]; exact (c2 n).1 (z2.resolve_left ee)
      · have z2 := fun w => z ((hex n).mpr w)
        show fup S.2.2.2.2.1 (nab own (k + 1)) (some i) n = N0 n
        unfold fup
        rw [if_neg fun w => z2 (Or.inl w)]
        exact (c2 n).2 fun w => z2 (Or.inr w)
      · show BxJ W.1 W.2 T1 own fr (fup S.2.2.2.2.2.1 (nab own (k + 1)) (some S.2.2.1.length)) (fup S.2.2.2.2.2.2 (nab own (k + 1)) (some W.2.length)) j
        have hfb : ∀ (F : Nat → Option Nat) v m, m ≠ nab own (k + 1) → fup F (nab own (k + 1)) v m = F m := fun F v m hm => by unfold fup; rw [if_neg hm]
        rcases Nat.lt_or_ge j k with z | z
        · rw [h6]
          exact (c3 j z).up hpf (by omega) hcs (hinj j z) hP1 hd1 (fun m hm => ⟨hNn m hm, by rw [hL, if_neg hm]⟩) hl16 (fun m hm => ⟨hfb _ _ m hm, hfb _ _ m hm⟩)
        · have ej : j = k := by omega
          subst ej
          refine ⟨fun _ => by rw [hns]; simp, fun y9 hy => ?_⟩
          rw [hns] at hy
          have hy := Option.some.inj hy
          subst hy
          refine ⟨S.2.2.1.length, W.2.length, by unfold fup; rw [if_pos rfl], by unfold fup; rw [if_pos rfl], by omega, Nat.le_refl _, fun q p hq hq2 hp => ?_, fun l l1 l2 l3 l4 => ?_⟩
          · rw [h6, List.getElem?_append_right hq] at hp
            exact h8 p (List.mem_of_getElem? hp)
          · rw [hP1] at l1
            obtain ⟨u, u1, u2⟩ := cv_hit b2 _ (asd own j) l as2 rfl (lf_of b2 l1) l1 ((asd_c ho16 (by omega) (hl16 l l1)).mpr ⟨l3, l4⟩)
            obtain ⟨g1, g2⟩ := hcvn u u1
            obtain ⟨-, g4, g5⟩ := cv_mem b2 _ _ u as2 rfl u1
            cases hx : S.1.2.1 u with
            | none => exact absurd hx g2
            | some x =>
              have hx1 : T1.2.1 u = some x := by rw [hNn u g1]; exact hx
              have hxl : x < S.2.1.length := by
                rcases b1.2.1 u with ⟨z1, -⟩ | ⟨x', w, z1, -, z3⟩
                · rw [hx] at z1; cases z1
                · rw [hx] at z1; cases z1; exact z3.lt.1
              have hAt := At.of hxl
              have hsk : ¬ (lev u = 0 ∧ hsB fr (u / 2) = true) := by
                rintro ⟨w1, w2⟩
                rcases u2 with w | ⟨w, -⟩
                · rw [w, show 2 * l / 2 = l by omega] at w2; exact l2 w2
                · omega
              obtain ⟨q, o, q1, q2, q3, q4⟩ := k2 u u1 hsk x _ hx1 (d2.at hAt)
              refine ⟨u, x, q, o, _, ?_, hx1, q1, q2, q3, hpf.at hAt, q4⟩
              rcases u2 with w | ⟨w1, w2, w3⟩
              · exact Or.inl w
              · refine Or.inr ⟨w1, w2, by rw [hL, if_neg g1]; exact w3, fun w4 => ?_, ?_⟩
                · exact ((asd_c ho16 (by omega) ho16).mp (g5 own ho16 w4)).2 (cvr_self ho16 (by omega))
                · rw [hd1]; exact b2.2.2.2.2.1 u x hx
      · show W.1.length + 1 ≤ _
        omega
      · show W.2.length + 1 ≤ _
        omega
