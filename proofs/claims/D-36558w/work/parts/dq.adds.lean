set_option maxRecDepth 100000
/-! ===== the stages of a commit: additions on both sides ===== -/
theorem pks_us {Ms : List MkS} {x : Nat} {m : MkS} (hm : Ms[x]? = some m) (j : Nat) : pksM (Ms.set x (usP m)) j = pksM Ms j := by
  unfold pksM
  rw [List.length_set]
  refine List.filter_congr fun k hk => ?_
  obtain ⟨z, hz⟩ := get_ex (List.mem_range.mp hk)
  rw [set_at2 hz, hz]
  by_cases e : k = x
  · rw [if_pos e]
    rw [e, hm] at hz; cases hz; rfl
  · rw [if_neg e]
theorem pr_ad {C : KsS} {D : MdS} (h : Inv C D) {T : TrS} (hT : (zTs C)[(zTs C).length - 1]? = some T) {k : Nat} {q : PrS} {p : MrS} (hq : (zRs C)[k]? = some q) (hp : (dRs D)[k]? = some p) (h2 : q.1 = 0) : p.1 = 97 ∧ p.2.2 = q.2.1 ∧ ∃ y s, (zKs C)[q.2.1]? = some y ∧ ¬ y.2.2.2.1 = true ∧ (zPs C)[y.1]? = some s ∧ pEp s = none ∧ ∀ l, T.2.2.2 l ≠ some y.1 := by
  obtain ⟨T2, hT2, hlt, w⟩ := h.2.2.2.2.2.2.2.1.2 k q p hq hp
  rw [hT] at hT2; cases hT2
  rcases w with ⟨-, w2, w3, y, s, w4⟩ | ⟨w, -⟩ | ⟨w, -⟩
  · exact ⟨w2, w3, y, s, w4⟩
  · omega
  · omega
def AdI (C : KsS) (D : MdS) (T1 T3 U3 : TrS) (R : Nat → Bool) (Ks2 : List PkS) (Ms2 : List MkS) (k : Nat) (S : AdS) (V : AmS) : Prop :=
  TrQ (zSs C) (dSs D) S.1 V.1 ∧ St T1 S.1 R V.2.2 ∧ LQ (fun _ => PkQ (zSs C) (dSs D)) S.2.1 V.2.1 ∧ (∀ j, pksM V.2.1 j = pksM Ms2 j) ∧
  (∀ l, hsB S.2.2.1 l = true ↔ V.2.2 l ≠ none) ∧ (∀ x, x ∈ S.2.2.2 ↔ ∃ l, V.2.2 l = some x) ∧ S.2.2.2.length ≤ k ∧ S.2.2.2.Nodup ∧
  (∀ l x, V.2.2 l = some x → ∃ q, S.2.1[x]? = some q ∧ S.1.2.2.2 l = some q.1 ∧ S.1.2.1 (2 * l) = some q.2.1 ∧ q.2.2.2.1 = true ∧ q.2.2.2.2.1 = some (zTs C).length ∧ q.2.2.2.2.2 = true ∧ (∃ s, (zPs C)[q.1]? = some s ∧ pEp s = none) ∧ ∃ j a, j < k ∧ (zRs C)[j]? = some a ∧ a.1 = 0 ∧ a.2.1 = x) ∧
  LQ (fun x q p => p.1 = q.1 ∧ p.2.1 = q.2.1 ∧ p.2.2.1 = q.2.2.1 ∧ (x ∈ S.2.2.2 → ¬ q.2.2.2.1 = true) ∧ (x ∉ S.2.2.2 → p = q)) Ks2 S.2.1
theorem ad_run {C : KsS} {D : MdS} (h : Inv C D) (hC : KsB C) {T T1 T3 U3 : TrS} {R : Nat → Bool} {Ks2 : List PkS} {Ms2 : List MkS} (hT : (zTs C)[(zTs C).length - 1]? = some T) (hP : ∀ l, T1.2.2.2 l = T.2.2.2 l) (hQ : TrQ (zSs C) (dSs D) T3 U3) (hSt : St T1 T3 R (fun _ => none)) (hK2 : LQ (fun _ => PkQ (zSs C) (dSs D)) Ks2 Ms2) (hKd : KdQ T1 R (zKs C) Ks2) : ∀ k, k ≤ (zRs C).length → AdI C D T1 T3 U3 R Ks2 Ms2 k (adK (zTs C).length (zRs C) (T3, Ks2, 0, []) k) (adM (dRs D) (U3, Ms2, fun _ => none) k)
  | 0, _ => by
    refine ⟨hQ, hSt, hK2, fun _ => rfl, fun l => ⟨fun z => absurd z (hsB_no rfl), fun z => absurd rfl z⟩, fun x => ⟨fun z => (by cases z), fun ⟨l, z⟩ => by cases z⟩, Nat.zero_le _, List.nodup_nil, (fun l x z => by cases z), rfl, fun x q p hq hp => ?_⟩
    have hp : Ks2[x]? = some p := hp
    rw [hq] at hp; cases hp
    exact ⟨rfl, rfl, rfl, (fun z => by cases z), fun _ => rfl⟩
  | k + 1, hk => by
    have hI0 := ad_run h hC hT hP hQ hSt hK2 hKd k (by omega)
    obtain ⟨q, hq⟩ := get_ex (xs := zRs C) (i := k) (by omega)
    obtain ⟨p, hp, hPQ⟩ := h.2.2.2.2.2.2.2.1.l hq
    rw [adK_s hq, adM_s hp]
    generalize adK (zTs C).length (zRs C) (T3, Ks2, 0, []) k = S at *
    generalize adM (dRs D) (U3, Ms2, fun _ => none) k = V at *
    obtain ⟨g1, g2, g3, g4, g5, g6, g7, g8, g9, g10⟩ := hI0
    have hPrD := h.2.2.2.2.2.2.2.2.2.2.2.2.2.2.2.1.2.2
    by_cases e2 : q.1 = 0
    · obtain ⟨a1, a2, y, s, a3, a4, a5, a6, a7⟩ := pr_ad h hT hq hp e2
      obtain ⟨y2, b1, b2, b3, b4, b5, -⟩ := hKd.l a3
      obtain ⟨y3, c1, c2, c3, c4, c5, c6⟩ := g10.l b1
      have hnew : ∀ l x, V.2.2 l = some x → ∀ z, S.2.1[x]? = some z → z.1 ≠ y3.1 := by
        intro l x hx z hz hzy
        obtain ⟨q9, d1, -, -, -, -, -, -, j, a, d2, d3, d4, d5⟩ := g9 l x hx
        rw [hz] at d1; cases d1
        obtain ⟨z2, f1, f2, -⟩ := g10.r hz
        obtain ⟨z1, f3, f4, -⟩ := hKd.r f1
        have := hPrD j k a q z1 y d2 d3 hq d4 e2 (by rw [d5]; exact f3) a3
        rw [f2, f4, c2, b2] at hzy
        exact this hzy
      have hnid : q.2.1 ∉ S.2.2.2 := by
        intro z
        obtain ⟨l, hl⟩ := (g6 _).mp z
        exact hnew l _ hl y3 c1 rfl
      have ey := c6 hnid
      subst ey
      have hno : ∀ l, S.1.2.2.2 l ≠ some y3.1 := by
        intro l hl
        cases e : V.2.2 l with
        | none =>
          have := g2.2.2.2.2.2.1 l _ hl e
          rw [hP, b2] at this
          exact a7 l this
        | some x =>
          obtain ⟨q9, d1, d2, -⟩ := g9 l x e
          rw [hl] at d2
          exact hnew l x e q9 d1 (Option.some.inj d2).symm
      have hno0 : ∀ l, T1.2.2.2 l ≠ some y3.1 := fun l hl => by rw [hP, b2] at hl; exact a7 l hl
      have hp10 : y3.1 < 10 := by
        have := get_lt2 a5
        rw [← b2] at this
        have := hC.2.2.1
        omega
      have hfr : frlT S.1 < 16 := by have := frlT_10 g2.1; omega
      obtain ⟨m, hm, hPm⟩ := g3.l c1
      have eK : ad1 (zTs C).length S q = (addT S.1 y3.1 y3.2.1, S.2.1.set q.2.1 (adsP (zTs C).length y3), S.2.2.1 ||| 2 ^ frlT S.1, S.2.2.2 ++ [q.2.1]) := by
        unfold ad1; rw [if_pos e2]
        show (match S.2.1[q.2.1]? with | none => S | some q_1 => _) = _
        rw [c1]
      have eM : adM1 V p = (addT V.1 y3.1 m.2.1, V.2.1.set q.2.1 (usP m), fup V.2.2 (frlT S.1) (some q.2.1)) := by
        unfold adM1; rw [if_pos a1, a2]
        show (match V.2.1[q.2.1]? with | none => V | some q_1 => _) = _
        rw [hm, ← g1.frl]
        show (addT V.1 m.1 m.2.1, _, _) = _
        rw [hPm.1]
      obtain ⟨s1, s2, s3, s4, s5⟩ := st_add (s := y3.2.1) (k := q.2.1) g2 hp10 hno hno0 hfr
      rw [eK, eM]
      have hngone : m.2.2.2.2 = false := by
        cases e : m.2.2.2.2 with
        | false => rfl
        | true =>
          have := hPm.2.2.2.2.2 e
          rw [← hPm.2.2.2.1, b5] at this
          exact absurd this a4
      refine ⟨g1.add _ hPm.2.1, s1, g3.set ⟨hPm.1, hPm.2.1, hPm.2.2.1, rfl, ?_, fun _ => rfl⟩, fun j => ?_, fun l => ?_, fun x => ?_, ?_, nd_sn g8 hnid, fun l x hx => ?_, ?_⟩
      · show true = (true && !m.2.2.2.2)
        rw [hngone]; rfl
      · show pksM (V.2.1.set q.2.1 (usP m)) j = _
        rw [pks_us hm, g4]
      · show hsB (S.2.2.1 ||| 2 ^ frlT S.1) l = true ↔ fup V.2.2 (frlT S.1) (some q.2.1) l ≠ none
        rw [hsB_or]
        unfold fup
        by_cases e : l = frlT S.1
        · rw [if_pos e]; simp [e]
        · rw [if_neg e]
          simp only [e, decide_false, Bool.or_false]
          exact g5 l
      · show x ∈ S.2.2.2 ++ [q.2.1] ↔ ∃ l, fup V.2.2 (frlT S.1) (some q.2.1) l = some x
        rw [List.mem_append, List.mem_singleton, g6]
        constructor
        · rintro (⟨l, hl⟩ | e)
          · refine ⟨l, ?_⟩
            unfold fup
            rw [if_neg]
            · exact hl
            · intro e; rw [e, s5] at hl; cases hl
          · exact ⟨frlT S.1, by unfold fup; rw [if_pos rfl, e]⟩
        · rintro ⟨l, hl⟩
          unfold fup at hl
          by_cases e : l = frlT S.1
          · rw [if_pos e] at hl; exact Or.inr (Option.some.inj hl).symm
          · rw [if_neg e] at hl; exact Or.inl ⟨l, hl⟩
      · show (S.2.2.2 ++ [q.2.1]).length ≤ k + 1
        rw [List.length_append, List.length_singleton]; omega
      · have hx : fup V.2.2 (frlT S.1) (some q.2.1) l = some x := hx
        unfold fup at hx
        by_cases e : l = frlT S.1
        · rw [if_pos e] at hx
          have hx := Option.some.inj hx
          subst hx
          refine ⟨adsP (zTs C).length y3, List.getElem?_set_self (get_lt2 c1), by rw [e]; exact s2, by rw [e]; exact s3, rfl, rfl, rfl, ⟨s, by show (zPs C)[y3.1]? = _; rw [b2]; exact a5, a6⟩, k, q, by omega, hq, e2, rfl⟩
        · rw [if_neg e] at hx
          obtain ⟨q9, d1, d2, d3, d4, d5, d6, d7, j, a, d8, d9⟩ := g9 l x hx
          refine ⟨q9, ?_, by rw [(s4 l e).1]; exact d2, by rw [(s4 l e).2]; exact d3, d4, d5, d6, d7, j, a, by omega, d9⟩
          show (S.2.1.set q.2.1 _)[x]? = _
          rw [List.getElem?_set_ne]
          · exact d1
          · intro e9
            exact hnid ((g6 _).mpr ⟨l, by rw [e9]; exact hx⟩)
      · refine ⟨by show _ = (S.2.1.set q.2.1 _).length; rw [List.length_set]; exact g10.1, fun x u w hu hw => ?_⟩
        rcases set_cases hw with ⟨ex, rfl⟩ | ⟨ex, hw⟩
        · rw [ex, b1] at hu; cases hu
          refine ⟨rfl, rfl, rfl, fun _ => ?_, fun z => absurd (List.mem_append_right _ (by rw [ex]; exact List.mem_singleton.mpr rfl)) z⟩
          rw [b5]; exact a4
        · obtain ⟨f1, f2, f3, f4, f5⟩ := g10.2 x u w hu hw
          refine ⟨f1, f2, f3, fun z => ?_, fun z => f5 fun z2 => z (List.mem_append_left _ z2)⟩
          rcases List.mem_append.mp z with z | z
          · exact f4 z
          · exact absurd (List.mem_singleton.mp z) ex
    · have eK : ad1 (zTs C).length S q = S := by unfold ad1; rw [if_neg e2]
      have eM : adM1 V p = V := by
        unfold adM1; rw [if_neg]
        intro z
        rcases hPQ.k with ⟨b, _, _⟩ | ⟨_, b, _⟩ | ⟨_, b, _⟩
        · exact e2 b
        · omega
        · omega
      rw [eK, eM]
      refine ⟨g1, g2, g3, g4, g5, g6, by omega, g8, fun l x hx => ?_, g10⟩
      obtain ⟨q9, d1, d2, d3, d4, d5, d6, d7, j, a, d8, d9⟩ := g9 l x hx
      exact ⟨q9, d1, d2, d3, d4, d5, d6, d7, j, a, by omega, d9⟩
