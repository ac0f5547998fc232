set_option maxRecDepth 100000
/-! ===== a group is founded ===== -/
def T0r (n i : Nat) : TrS := (0, fup (fun _ => none) 0 (some n), fun _ => 0, fup (fun _ => none) 0 (some i))
theorem T0r_1 {n i : Nat} (hi : i < 10) : TrI (T0r n i) := by
  refine ⟨Nat.zero_le _, fun l => ?_, fun l p h => ?_, fun l m p h h2 => ?_, fun m x h => ?_, fun m l h => ?_, (fun m => by show 0 < 65536; decide), fun m _ => rfl, fun m x h => ?_⟩
  · show fup (fun _ => none) 0 (some i) l = none ↔ fup (fun _ => none) 0 (some n) (2 * l) = none
    unfold fup
    by_cases e : l = 0
    · rw [if_pos e, if_pos (by omega)]; simp
    · rw [if_neg e, if_neg (by omega)]
  · have h : fup (fun _ => none) 0 (some i) l = some p := h
    unfold fup at h
    by_cases e : l = 0
    · rw [if_pos e] at h; cases h
      exact ⟨by rw [e]; exact Nat.one_pos, hi⟩
    · rw [if_neg e] at h; cases h
  · have h : fup (fun _ => none) 0 (some i) l = some p := h
    have h2 : fup (fun _ => none) 0 (some i) m = some p := h2
    unfold fup at h h2
    by_cases e : l = 0
    · by_cases e2 : m = 0
      · rw [e, e2]
      · rw [if_neg e2] at h2; cases h2
    · rw [if_neg e] at h; cases h
  · have h : fup (fun _ => none) 0 (some n) m = some x := h
    unfold fup at h
    by_cases e : m = 0
    · rw [e]; show 0 < 2 * 2 ^ 0 - 1; decide
    · rw [if_neg e] at h; cases h
  · have h : hsB 0 l = true := h
    rw [hsB_0] at h; cases h
  · have h : fup (fun _ => none) 0 (some n) m = some x := h
    unfold fup at h
    by_cases e : m = 0
    · rw [e]
      exact ⟨0, by show some i ≠ none; simp, by decide, by show ¬ hsB 0 0 = true; rw [hsB_0]; simp⟩
    · rw [if_neg e] at h; cases h
theorem T0r_l {n i l p : Nat} (h : (T0r n i).2.2.2 l = some p) : l = 0 ∧ p = i := by
  have h : fup (fun _ => none) 0 (some i) l = some p := h
  unfold fup at h
  by_cases e : l = 0
  · rw [if_pos e] at h; cases h; exact ⟨e, rfl⟩
  · rw [if_neg e] at h; cases h
theorem T0r_q {ss tt : List Sec} {n m i : Nat} (h : Nq ss tt n m) : TrQ ss tt (T0r n i) (T0r m i) := by
  refine ⟨rfl, fun k => ?_, fun _ => rfl, fun _ => rfl⟩
  show Oq ss tt (fup (fun _ => none) 0 (some n) k) (fup (fun _ => none) 0 (some m) k)
  unfold fup
  by_cases e : k = 0
  · rw [if_pos e, if_pos e]; exact Or.inr ⟨n, m, rfl, rfl, h⟩
  · rw [if_neg e, if_neg e]; exact Or.inl ⟨rfl, rfl⟩
theorem nil_R {C : KsS} {D : MdS} (h : Inv C D) (hT : zTs C = []) : zRs C = [] ∧ zMs C = [] ∧ (∀ (j : Nat) (s : PeS), (zPs C)[j]? = some s → pEp s = none) ∧ ∀ (k : Nat) (p : PkS), (zKs C)[k]? = some p → ¬ p.2.2.2.2.2 = true := by
  refine ⟨?_, ?_, fun j s hs => ?_, fun k p hp ho => ?_⟩
  · cases e : zRs C with
    | nil => rfl
    | cons a b =>
      obtain ⟨p, -, T, z, -⟩ := h.2.2.2.2.2.2.2.1.l (k := 0) (x := a) (by rw [e]; rfl)
      rw [hT] at z; cases z
  · cases e : zMs C with
    | nil => rfl
    | cons a b =>
      obtain ⟨p, -, -, -, -, -, -, T, z, -⟩ := h.ms.l (k := 0) (x := a) (by rw [e]; rfl)
      rw [hT] at z; cases z
  · obtain ⟨q, -, ⟨hw, -⟩, -⟩ := h.2.2.2.2.2.2.2.2.2.2.1.l hs
    cases e : pEp s with
    | none => rfl
    | some ep =>
      obtain ⟨T, Ep, a1, -⟩ := hw.2.2.2.2.2 ep e
      rw [hT] at a1; cases a1
  · obtain ⟨e, E, l, s, -, z2, -⟩ := h.2.2.2.2.2.2.2.2.2.2.2.2.2.2.1.2.1 k p hp ho
    rw [h.nil.mp hT] at z2; cases z2
theorem cr_y {C : KsS} {D : MdS} (h : Inv C D) (hC : KsB C) {i : Nat} {r : PeS} {q : MpS} (hr : (zPs C)[i]? = some r) (hq : (dPs D)[i]? = some q) (hT0 : zTs C = []) : ∃ (q1 : List Sec) (on1 : Nat) (q2 : List Sec) (ky1 : Nat) (q3 : List Sec) (on2 : Nat) (q4 : List Sec) (ky2 : Nat) (p1 : List Sec) (mo : Nat) (p2 : List Sec) (mk : Nat),
    (i < 10 ∧ frm (zSs C ++ [drw (zZz C)] ++ [drw (lcg (zZz C))]) (((zSs C).length + 1), none, 5) = (q1, on1) ∧ frm q1 (((zSs C).length + 1), none, 6) = (q2, ky1) ∧ frm (chS (T0r (zSs C).length i) ((zSs C).length + 1) q2 (2 ^ 0)).1 (((zSs C).length + 1), none, 5) = (q3, on2) ∧ frm q3 (((zSs C).length + 1), none, 6) = (q4, ky2) ∧ (chS (T0r (zSs C).length i) ((zSs C).length + 1) q4 (2 ^ 0)).1.length ≤ (zSs C).length + 5) ∧
    (dEs D = [] ∧ frm (dSs D ++ [drw (dZz D)] ++ [drw (lcg (dZz D))]) ((dSs D).length + 1, none, 5) = (p1, mo) ∧ frm p1 ((dSs D).length + 1, none, 6) = (p2, mk) ∧ (chM (T0r (dSs D).length i) ((dSs D).length + 1) p2 (2 ^ 0)).1.length ≤ (dSs D).length + 5 ∧ NtB (dKs D) (dEs D ++ [((0, T0r (dSs D).length i, mo, mk, (chM (T0r (dSs D).length i) ((dSs D).length + 1) p2 (2 ^ 0)).2, fun _ => false, fun _ => false, fun _ => none) : MeS)]) ((dPs D).set i (comR ((mEp q, 0, (dSs D).length, mRn q, mNd q, mCh q, mEv q) : MpS) ((0, T0r (dSs D).length i, mo, mk, (chM (T0r (dSs D).length i) ((dSs D).length + 1) p2 (2 ^ 0)).2, fun _ => false, fun _ => false, fun _ => none) : MeS))) (chM (T0r (dSs D).length i) ((dSs D).length + 1) p2 (2 ^ 0)).1.length (dMs D).length) ∧
    ∀ (E : Nat → Bool) (Qs : List MpS), (∀ y, E y = true ↔ pEv r y = true ∨ helP (zKs C) ((pNo r, pEv r, pPk r, some 0, 0, drpF (T0r (zSs C).length i) (fup (pNd r) 0 (some (zSs C).length)), on2, ky2, (chS (T0r (zSs C).length i) ((zSs C).length + 1) q4 (2 ^ 0)).2, none) : PeS) y) → NtR (dKs D) (dEs D ++ [((0, T0r (dSs D).length i, mo, mk, (chM (T0r (dSs D).length i) ((dSs D).length + 1) p2 (2 ^ 0)).2, fun _ => false, fun _ => false, fun _ => none) : MeS)]) ((dPs D).set i (comR ((mEp q, 0, (dSs D).length, mRn q, mNd q, mCh q, mEv q) : MpS) ((0, T0r (dSs D).length i, mo, mk, (chM (T0r (dSs D).length i) ((dSs D).length + 1) p2 (2 ^ 0)).2, fun _ => false, fun _ => false, fun _ => none) : MeS))) Qs ((dPs D).set i (comR ((mEp q, 0, (dSs D).length, mRn q, mNd q, mCh q, mEv q) : MpS) ((0, T0r (dSs D).length i, mo, mk, (chM (T0r (dSs D).length i) ((dSs D).length + 1) p2 (2 ^ 0)).2, fun _ => false, fun _ => false, fun _ => none) : MeS))).length →
      Inv ((chS (T0r (zSs C).length i) ((zSs C).length + 1) q4 (2 ^ 0)).1, zBx C, lcg (lcg (zZz C)), (zPs C).set i ((pNo r, E, pPk r, some 0, 0, drpF (T0r (zSs C).length i) (fup (pNd r) 0 (some (zSs C).length)), on2, ky2, (chS (T0r (zSs C).length i) ((zSs C).length + 1) q4 (2 ^ 0)).2, none) : PeS), zKs C, zRs C, zTs C ++ [T0r (zSs C).length i], zSt C ++ [((0, none, (zSs C).length + 1, fun _ => none, fun _ => none) : StS)], zMs C, zSo C, zBn C) ((chM (T0r (dSs D).length i) ((dSs D).length + 1) p2 (2 ^ 0)).1, dBx D, dKs D, Qs, dRs D, dEs D ++ [((0, T0r (dSs D).length i, mo, mk, (chM (T0r (dSs D).length i) ((dSs D).length + 1) p2 (2 ^ 0)).2, fun _ => false, fun _ => false, fun _ => none) : MeS)], dMs D, dSo D, 0, lcg (lcg (dZz D)), dBn D, dCm D) := by
  obtain ⟨⟨hw, hev, hnd⟩, hrn, hch, hhe⟩ := h.2.2.2.2.2.2.2.2.2.2.1.2 i r q hr hq
  obtain ⟨hR0, hM0, hP0, hK0⟩ := nil_R h hT0
  have hEs0 := h.nil.mp hT0
  have hz := h.2.2.1
  have hbn := h.2.2.2.1
  have hcm := h.2.2.2.2.1
  have hStl := h.2.2.2.2.2.2.2.2.2.1
  have hSt0 : zSt C = [] := by rw [← List.length_eq_zero_iff, hStl, hT0]; rfl
  have hOk := h.2.1
  have hC1 := hC.1
  have hC3 := hC.2.2.1
  have hir := get_lt2 hr
  have hlen := h.1.len
  obtain ⟨hnd0, hch0, hmn0, hmc0, hrn0⟩ := hw.2.2.2.2.1 (hP0 i r hr)
  -- two secrets are drawn
  obtain ⟨a1, a2⟩ := h.1.drw2 (zZz C)
  obtain ⟨b1, b2⟩ := a1.drw2 (lcg (zZz C))
  have aOk := SsOk.drw2 (SsOk.drw2 hOk (zZz C)) (lcg (zZz C))
  rw [hz] at aOk a1 a2 b1 b2
  have e1 : (zSs C ++ [drw (dZz D)]).length = (zSs C).length + 1 := by rw [List.length_append]; rfl
  have e2 : (dSs D ++ [drw (dZz D)]).length = (dSs D).length + 1 := by rw [List.length_append]; rfl
  rw [e1, e2] at b2
  have e3 : (dSs D ++ [drw (dZz D)] ++ [drw (lcg (dZz D))]).length = (dSs D).length + 2 := by rw [List.length_append, e2]; rfl
  have e4 : (zSs C ++ [drw (dZz D)] ++ [drw (lcg (dZz D))]).length = (zSs C).length + 2 := by rw [List.length_append, e1]; rfl
  have pfa : Pf (zSs C) (zSs C ++ [drw (dZz D)] ++ [drw (lcg (dZz D))]) := Pf.snoc.tr Pf.snoc
  have pfb : Pf (dSs D) (dSs D ++ [drw (dZz D)] ++ [drw (lcg (dZz D))]) := Pf.snoc.tr Pf.snoc
  have a3 : Nq (zSs C ++ [drw (dZz D)] ++ [drw (lcg (dZz D))]) (dSs D ++ [drw (dZz D)] ++ [drw (lcg (dZz D))]) (zSs C).length (dSs D).length := a2.up Pf.snoc Pf.snoc
  obtain ⟨x, hx, hy⟩ := id b2
  have hk : ∀ l, l < 10 → kOk (((dSs D).length + 1, none, l) : Ky) := fun l hl => ⟨by show (dSs D).length + 1 < 1000; omega, Or.inl hl⟩
  obtain ⟨q1, on1, p1, mo, c1, c2, c3, c4, c5, c6, c7, c8, c9⟩ := b1.fm (KN.i1 (l := 5) hx) (KN.i1 (l := 5) hy)
  obtain ⟨q2, ky1, p2, mk, d1, d2, d3, d4, d5, d6, d7, d8, d9⟩ := c3.fm (KN.i1 (l := 6) (c4.at hx)) (KN.i1 (l := 6) (c5.at hy))
  have hx2 := d4.at (c4.at hx)
  have hy2 := d5.at (c5.at hy)
  obtain ⟨s3, CH, f1, f2, f3, f4, f5, f6, f7⟩ := chs_mk (T := T0r (zSs C).length i) d3.1 hx2 (2 ^ 0)
  obtain ⟨t3, DH, g1, g2, go, g3, g4, g5, g6, g7⟩ := chm_mk (T := T0r (dSs D).length i) d3.2.1 (d9 (c9 aOk (hk 5 (by decide))) (hk 6 (by decide))) (by omega) hy2 (2 ^ 0) (by decide)
  have hx3 := f3.at hx2
  have hy3 := g3.at hy2
  have h5 := frm_s (fnd_1 f2 hx3 ((d4.tr f3).at c6))
  have h6 := frm_s (fnd_1 f2 hx3 (f3.at d6))
  obtain ⟨CH2, k1, k2⟩ := chs_run (k := 2 ^ 0) (T := T0r (zSs C).length i) f2 hx3 (fun l hl => (f6 _).mpr (Or.inr (by
    cases e : (T0r (zSs C).length i).2.2.2 l with
    | none => exact absurd e hl
    | some p => exact ⟨l, by rw [(T0r_l e).1]; decide, by rw [e]; simp, rfl⟩)))
  have hl0 : ∀ l, (l < 2 ^ 0 ∧ (T0r (zSs C).length i).2.2.2 l ≠ none) ↔ l = 0 := fun l => ⟨fun z => by have := z.1; show l = 0; omega, fun z => by subst z; exact ⟨by decide, by show some i ≠ none; simp⟩⟩
  have hl1 : ∀ l, (l < 2 ^ 0 ∧ (T0r (dSs D).length i).2.1 (2 * l) ≠ none) ↔ l = 0 := fun l => ⟨fun z => by have := z.1; show l = 0; omega, fun z => by subst z; exact ⟨by decide, by show some (dSs D).length ≠ none; simp⟩⟩
  have hS2 : SqS s3 t3 := by
    refine ⟨f2, g2, by rw [f4, g4, d3.2.2.1], fun n => ?_⟩
    rw [f6, g6, d3.2.2.2]
    refine or_congr Iff.rfl ⟨?_, ?_⟩
    · rintro ⟨l, z1, z2, z3⟩
      have := (hl0 l).mp ⟨z1, z2⟩
      exact ⟨l, ((hl1 l).mpr this).1, ((hl1 l).mpr this).2, z3⟩
    · rintro ⟨l, z1, z2, z3⟩
      have := (hl1 l).mp ⟨z1, z2⟩
      exact ⟨l, ((hl0 l).mpr this).1, ((hl0 l).mpr this).2, z3⟩
  have hpf : Pf (zSs C) s3 := ((pfa.tr c4).tr d4).tr f3
  have hpg : Pf (dSs D) t3 := ((pfb.tr c5).tr d5).tr g3
  have h1 := h.sec (b := []) (c := []) (th := 0) (congrArg lcg (congrArg lcg hz)) hbn hpf hpg hS2 go (by rw [List.append_nil, List.append_nil]; exact h.bq.up hpf hpg)
  rw [List.append_nil, List.append_nil] at h1
  have hno : Nq s3 t3 on1 mo := ⟨_, (d4.tr f3).at c6, (d5.tr g3).at c7⟩
  have hnk : Nq s3 t3 ky1 mk := ⟨_, f3.at d6, g3.at d7⟩
  have hnl : Nq s3 t3 (zSs C).length (dSs D).length := a3.up ((c4.tr d4).tr f3) ((c5.tr d5).tr g3)
  have hCHn : ∀ l, CH2 l = none ↔ (T0r (zSs C).length i).2.2.2 l = none := by
    intro l
    by_cases e : l = 0
    · obtain ⟨c, z, -⟩ := (k2 l).1 ((hl0 l).mpr e)
      rw [z, e]
      exact ⟨(fun w => by cases w), (fun w => by have w : some i = none := w; cases w)⟩
    · have z := (k2 l).2 fun w => e ((hl0 l).mp w)
      refine ⟨fun _ => ?_, fun _ => z⟩
      show fup (fun _ => none) 0 (some i) l = none
      unfold fup; rw [if_neg e]
  refine ⟨q1, on1, q2, ky1, s3, on1, s3, ky1, p1, mo, p2, mk, ⟨by omega, by rw [hz]; exact c1, d1, by rw [f1]; exact h5, h6, ?_⟩, ?_⟩
  · rw [k1]
    show s3.length ≤ _
    have : tkN (T0r (zSs C).length i) (2 ^ 0) = 1 := rfl
    omega
  rw [k1, g1]
  have hTI := T0r_1 (n := (zSs C).length) (i := i) (by omega)
  have hcv0 : ∀ n, n < 2 * 2 ^ 0 - 1 → n = 0 := fun n hn => by omega
  have hHJ : HJ (T0r (zSs C).length i) 0 (drpF (T0r (zSs C).length i) (fup (pNd r) 0 (some (zSs C).length))) := by
    intro n
    by_cases e : n = 0
    · subst e
      rw [if_pos ⟨by decide, by show 0 < 2 * 2 ^ 0 - 1; decide, by show ¬ hsB 0 0 = true; rw [hsB_0]; simp⟩]
      unfold drpF
      rw [if_pos ⟨by show 0 < 2 * 2 ^ 0 - 1; decide, rfl⟩]; rfl
    · rw [if_neg fun z => e (hcv0 n z.2.1)]
      unfold drpF
      rw [if_neg fun z => e (hcv0 n z.1)]
  have hpw : ∀ E, PeW s3 t3 (zTs C ++ [T0r (zSs C).length i]) (dEs D ++ [((0, T0r (dSs D).length i, mo, mk, DH, fun _ => false, fun _ => false, fun _ => none) : MeS)]) (dKs D) i ((pNo r, E, pPk r, some 0, 0, drpF (T0r (zSs C).length i) (fup (pNd r) 0 (some (zSs C).length)), on1, ky1, CH2, none) : PeS) (comR ((mEp q, 0, (dSs D).length, mRn q, mNd q, mCh q, mEv q) : MpS) ((0, T0r (dSs D).length i, mo, mk, DH, fun _ => false, fun _ => false, fun _ => none) : MeS)) := by
    intro E
    refine ⟨hw.1, rfl, Or.inl ⟨rfl, rfl⟩, hw.2.2.2.1, fun z => (by cases z), fun e z => ?_⟩
    cases z
    refine ⟨T0r (zSs C).length i, _, by rw [hT0]; rfl, by rw [hEs0]; rfl, rfl, rfl, hHJ, fun n hn => ?_, fun n _ => hmn0 n, ?_, hno, hnk, fun l => ?_, hCHn⟩
    · show Oq s3 t3 (drpF (T0r (zSs C).length i) (fup (pNd r) 0 (some (zSs C).length)) n) (mNd q n)
      rw [hmn0, hHJ n, if_neg]
      · exact Or.inl ⟨rfl, rfl⟩
      · intro z; rw [hcv0 n z.2.1] at hn; exact absurd hn (by decide)
    · show Oq s3 t3 (drpF _ _ (2 * 0)) (some (dSs D).length)
      exact Or.inr ⟨(zSs C).length, (dSs D).length, by rw [hHJ (2 * 0), if_pos ⟨by decide, by show 0 < 2 * 2 ^ 0 - 1; decide, by show ¬ hsB 0 0 = true; rw [hsB_0]; simp⟩]; rfl, rfl, hnl⟩
    · by_cases e : l = 0
      · obtain ⟨c, z1, z2⟩ := (k2 l).1 ((hl0 l).mpr e)
        obtain ⟨d, z3, z4⟩ := (g7 l).1 ((hl1 l).mpr e)
        refine Or.inr ⟨(c, 0, fun _ => none), (d, 0, []), z1, ?_, ⟨_, z2, z4⟩, rfl, List.nodup_nil, (fun p z hz => by cases hz), (fun p z hz => by cases hz), Nat.le_refl _, fun z hz => by cases hz⟩
        show cmS _ l = _
        unfold cmS
        rw [if_pos (by omega)]
        show (DH l).map _ = _
        rw [z3]; rfl
      · refine Or.inl ⟨(k2 l).2 fun w => e ((hl0 l).mp w), ?_⟩
        show cmS _ l = _
        unfold cmS
        split
        · show (DH l).map _ = _
          rw [(g7 l).2 fun w => e ((hl1 l).mp w)]; rfl
        · rfl
  have hTs : ∀ T ∈ zTs C ++ [T0r (zSs C).length i], TrI T := by
    intro T hT
    rw [hT0] at hT
    have hT := List.mem_singleton.mp hT
    rw [hT]; exact hTI
  have hps : ∀ E : Nat → Bool, (∀ y, E y = true ↔ pEv r y = true ∨ helP (zKs C) ((pNo r, pEv r, pPk r, some 0, 0, drpF (T0r (zSs C).length i) (fup (pNd r) 0 (some (zSs C).length)), on1, ky1, CH2, none) : PeS) y) → LQ (fun j r q => PeW s3 t3 (zTs C ++ [T0r (zSs C).length i]) (dEs D ++ [((0, T0r (dSs D).length i, mo, mk, DH, fun _ => false, fun _ => false, fun _ => none) : MeS)]) (dKs D) j r q ∧ evOk s3 t3 (zKs C) r q) ((zPs C).set i ((pNo r, E, pPk r, some 0, 0, drpF (T0r (zSs C).length i) (fup (pNd r) 0 (some (zSs C).length)), on1, ky1, CH2, none) : PeS)) ((dPs D).set i (comR ((mEp q, 0, (dSs D).length, mRn q, mNd q, mCh q, mEv q) : MpS) ((0, T0r (dSs D).length i, mo, mk, DH, fun _ => false, fun _ => false, fun _ => none) : MeS))) := by
    intro E hE
    refine LQ.set (h1.2.2.2.2.2.2.2.2.2.2.1.imp fun j s z hs _ y => ?_) ⟨hpw E, hnd, _, hev.up hpf hpg, hE⟩
    obtain ⟨⟨y1, y2, y3⟩, -, -, y4⟩ := y
    refine ⟨⟨y1.1, y1.2.1, y1.2.2.1, y1.2.2.2.1, y1.2.2.2.2.1, fun e he => ?_⟩, evOk.old y2 y3 y4⟩
    rw [hP0 j s hs] at he; cases he
  have hchl : ∀ E, ChL C ((pNo r, E, pPk r, some 0, 0, drpF (T0r (zSs C).length i) (fup (pNd r) 0 (some (zSs C).length)), on1, ky1, CH2, none) : PeS) := by
    intro E l c hc
    have hc : CH2 l = some c := hc
    by_cases e : l = 0
    · obtain ⟨c2, z1, -⟩ := (k2 l).1 ((hl0 l).mpr e)
      rw [hc] at z1; cases z1; exact Nat.zero_le _
    · rw [(k2 l).2 fun w => e ((hl0 l).mp w)] at hc; cases hc
  have hD16 : t3.length ≤ (dSs D).length + 5 := by
    have := d3.len
    have : (2:Nat) ^ 0 = 1 := rfl
    omega
  refine ⟨⟨hEs0, by rw [← hz] at c2 ⊢; exact c2, d2, hD16, ?_⟩, fun E Qs hE hN => ?_⟩
  · obtain ⟨E, hE⟩ := cl_bool fun y => pEv r y = true ∨ helP (zKs C) ((pNo r, pEv r, pPk r, some 0, 0, drpF (T0r (zSs C).length i) (fup (pNd r) 0 (some (zSs C).length)), on1, ky1, CH2, none) : PeS) y
    refine ntb_of h1.kk hTs (hps E hE) fun r9 hr9 l c hc => ?_
    have hml := h.ms.1
    rw [← hml]
    obtain ⟨k, hk⟩ := List.getElem?_of_mem hr9
    rcases set_cases hk with ⟨-, rfl⟩ | ⟨-, z⟩
    · exact hchl E l c hc
    · obtain ⟨q9, -, -, -, w, -⟩ := h.2.2.2.2.2.2.2.2.2.2.1.l z
      exact w l c hc
  · have hps2 := nt_q h1.kk hTs hN (hps E hE)
    have hPk := h.2.2.2.2.2.2.2.2.2.2.2.2.2.2.1
    obtain ⟨hS', hOk', -, -, -, hB', hK', hR', hE', -, hP', hM', hSo', hSn', hPk', hPr', hRo', hCm'⟩ := h1
    have hKo : ∀ (k : Nat) (p : PkS), (zKs C)[k]? = some p → p.2.2.2.2.2 = true → False := fun k p hp ho => hK0 k p hp ho
    refine ⟨hS', hOk', congrArg lcg (congrArg lcg hz), hbn, ?_, hB', hK', ?_, ?_, ?_, ?_, ?_, hSo', hSn', ⟨?_, fun k p hp ho => absurd ho (hK0 k p hp), fun k p k2 p2 hp _ ho => absurd ho (hK0 k p hp), ?_⟩, ?_, fun j p a k T1 T2 l hp ho => absurd ho (hK0 j p hp), ?_⟩
    · show dCm D = (zTs C ++ [T0r (zSs C).length i]).length - 1
      rw [hcm, hT0]; rfl
    · show LQ _ (zRs C) (dRs D)
      have hl := h.ln.2.2.1
      rw [hR0] at hl ⊢
      rw [List.length_eq_zero_iff.mp hl]; exact LQ.nil
    · show LQ _ (zTs C ++ [T0r (zSs C).length i]) (dEs D ++ [((0, T0r (dSs D).length i, mo, mk, DH, fun _ => false, fun _ => false, fun _ => none) : MeS)])
      rw [hT0, hEs0]
      refine LQ.nil.snoc ⟨rfl, ⟨hTI, fun l p hl => ?_⟩, T0r_q hnl, (0, none, (zSs C).length + 1, fun _ => none, fun _ => none), x, ?_, ⟨hx3, (d5.tr g3).at c7, g3.at d7, fun l hl => ?_, fun l hl => ?_⟩, fun e T0 s0 E0 he => ?_⟩
      · show p < ((zPs C).set i _).length
        rw [List.length_set, (T0r_l hl).2]; exact hir
      · show (zSt C ++ [_])[0]? = _
        rw [hSt0]; rfl
      · refine (g7 l).2 fun w => ?_
        rw [(hl1 l).mp w] at hl
        have hl : some i = none := hl
        cases hl
      · refine (g7 l).1 ((hl1 l).mpr ?_)
        cases e : (T0r (zSs C).length i).2.2.2 l with
        | none => exact absurd e hl
        | some p => exact (T0r_l e).1
      · have he : 0 = e + 1 := he
        omega
    · show (zSt C ++ [_]).length = (zTs C ++ [_]).length
      rw [hSt0, hT0]; rfl
    · refine hps2.imp fun k s m hs hm z => ?_
      rcases set_cases hs with ⟨rfl, rfl⟩ | ⟨y, hs2⟩
      · refine ⟨z.1, fun e he => ⟨fun n T1 T2 hn h1 h2 _ => ?_, fun _ x => ⟨(fun w => by cases w), fun w => ?_⟩⟩, hchl E, z.2⟩
        · have h2 : (zTs C ++ [T0r (zSs C).length _])[n + 1]? = some T2 := h2
          have := get_lt2 h2
          rw [hT0] at this
          have this : n + 1 < 1 := this
          omega
        · have w : _ ∈ zRs C := w
          rw [hR0] at w; cases w
      · refine ⟨z.1, fun e he => ?_, ?_, z.2⟩
        · rw [hP0 k s hs2] at he; cases he
        · obtain ⟨m2, -, -, -, w2, -⟩ := hP'.l hs2
          exact w2
    · show LQ _ (zMs C) (dMs D)
      have hl := h.ln.2.2.2.2
      rw [hM0] at hl ⊢
      rw [List.length_eq_zero_iff.mp hl]; exact LQ.nil
    · intro e E9 l k hE9 hk
      have hE9 : (dEs D ++ [((0, T0r (dSs D).length i, mo, mk, DH, fun _ => false, fun _ => false, fun _ => none) : MeS)])[e]? = some E9 := hE9
      rw [hEs0] at hE9
      rcases snoc_at hE9 with ⟨z, -⟩ | ⟨-, z⟩
      · exact absurd z (Nat.not_lt_zero _)
      · rw [z] at hk; cases hk
    · intro p hp
      show _ < ((zPs C).set i _).length
      rw [List.length_set]; exact hPk.2.2.2 p hp
    · show PrD _
      refine ⟨fun j k q p _ hq => ?_, fun j k q p _ hq => ?_, fun j k q p a b _ hq => ?_⟩ <;>
      · have hq : (zRs C)[j]? = some q := hq
        rw [hR0] at hq; cases hq
    · intro j s k st T hs hst hT hc
      refine ⟨fun e he => ?_, fun k2 p a hp ho => absurd ho (hK0 k2 p hp)⟩
      have hst : (zSt C ++ [_])[k]? = some st := hst
      rw [hSt0] at hst
      rcases snoc_at hst with ⟨z, -⟩ | ⟨z, -⟩
      · exact absurd z (Nat.not_lt_zero _)
      · have z : k = 0 := z
        omega
