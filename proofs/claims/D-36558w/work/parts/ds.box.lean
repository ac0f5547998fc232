set_option maxRecDepth 100000
/-! ===== boxes for a cover, on both sides ===== -/
theorem Pf.nms {a b : List Sec} (h : Pf a b) {x : Nm} (hx : x ∈ nms a) : x ∈ nms b := mem_ex a h hx
def BxR (ss tt : List Sec) (bx cx : List (Nat × Nat)) (T : TrS) (fr s1 : Nat) (cv : List Nat) (V W : BxS) : Prop :=
  SqS V.1 W.1 ∧ SsOk W.1 ∧ Pf ss V.1 ∧ Pf tt W.1 ∧ Bq V.1 W.1 V.2 W.2 ∧ (∃ b, V.2 = bx ++ b ∧ b.length ≤ cv.length ∧ ∀ p ∈ b, p.2 = s1) ∧ (∃ c, W.2 = cx ++ c) ∧ V.1.length ≤ ss.length + cv.length ∧
  ∀ n ∈ cv, ¬ (lev n = 0 ∧ hsB fr (n / 2) = true) → ∀ x z, T.2.1 n = some x → At ss x z → ∃ q o, bx.length ≤ q ∧ q < V.2.length ∧ V.2[q]? = some (o, s1) ∧ At V.1 o (n1 z 1)
theorem bx_run {T U : TrS} {fr s1 m1 : Nat} {pk : Nat → Option Nat} (hfp : ∀ l, hsB fr l = true ↔ pk l ≠ none) : ∀ (cv : List Nat) (ss tt : List Sec) (bx cx : List (Nat × Nat)), SqS ss tt → SsOk tt → Bq ss tt bx cx → Nq ss tt s1 m1 → (∀ n ∈ cv, ∃ x y, T.2.1 n = some x ∧ U.2.1 n = some y ∧ Nq ss tt x y) → ss.length + cv.length ≤ 990 → BxR ss tt bx cx T fr s1 cv (bxF T fr s1 cv (ss, bx)) (bxmF U pk m1 cv (tt, cx))
  | [], ss, tt, bx, cx, hS, hO, hB, hq, _, _ => ⟨hS, hO, Pf.rfl, Pf.rfl, hB, ⟨[], (List.append_nil _).symm, Nat.le_refl _, fun p hp => by cases hp⟩, ⟨[], (List.append_nil _).symm⟩, Nat.le_refl _, fun n hn => by cases hn⟩
  | n :: cv, ss, tt, bx, cx, hS, hO, hB, hq, hN, hl => by
    obtain ⟨x, y, e1, e2, hxy⟩ := hN n List.mem_cons_self
    have hlen := hS.len
    rw [List.length_cons] at hl
    show BxR ss tt bx cx T fr s1 (n :: cv) (bxF T fr s1 cv (bx1 T fr s1 (ss, bx) n)) (bxmF U pk m1 cv (bxm1 U pk m1 (tt, cx) n))
    by_cases e : lev n = 0 ∧ hsB fr (n / 2) = true
    · have e3 : lev n = 0 ∧ pk (n / 2) ≠ none := ⟨e.1, (hfp _).mp e.2⟩
      have eK : bx1 T fr s1 (ss, bx) n = (ss, bx) := by unfold bx1; rw [if_pos e]
      have eM : bxm1 U pk m1 (tt, cx) n = (tt, cx) := by unfold bxm1; rw [if_pos e3]
      rw [eK, eM]
      obtain ⟨a1, a2, a3, a4, a5, ⟨b, b1, b2, b3⟩, a7, a8, a9⟩ := bx_run hfp cv ss tt bx cx hS hO hB hq (fun m hm => hN m (List.mem_cons_of_mem _ hm)) (by omega)
      refine ⟨a1, a2, a3, a4, a5, ⟨b, b1, by rw [List.length_cons]; omega, b3⟩, a7, by rw [List.length_cons]; omega, fun m hm hs => ?_⟩
      rcases List.mem_cons.mp hm with z | z
      · rw [z] at hs; exact absurd e hs
      · exact a9 m z hs
    · have e3 : ¬ (lev n = 0 ∧ pk (n / 2) ≠ none) := fun z => e ⟨z.1, (hfp _).mpr z.2⟩
      obtain ⟨w, w1, w2⟩ := id hxy
      have hyl := w2.lt
      obtain ⟨s2, i, t2, j, f1, f2, c1, c2, c3, c4, c5, c6, c7⟩ := hS.fm (KN.i1 (l := 1) w1) (KN.i1 (l := 1) w2)
      have eK : bx1 T fr s1 (ss, bx) n = (s2, bx ++ [(i, s1)]) := by
        unfold bx1; rw [if_neg e, e1]
        show ((frm ss (x, none, 1)).1, bx ++ [((frm ss (x, none, 1)).2, s1)]) = _
        rw [f1]
      have eM : bxm1 U pk m1 (tt, cx) n = (t2, cx ++ [(j, m1)]) := by
        unfold bxm1; rw [if_neg e3, e2]
        show ((frm tt (y, none, 1)).1, cx ++ [((frm tt (y, none, 1)).2, m1)]) = _
        rw [f2]
      rw [eK, eM]
      have hO2 := c7 hO ⟨by show y < 1000; omega, Or.inl (by decide)⟩
      obtain ⟨a1, a2, a3, a4, a5, ⟨b, b1, b2, b3⟩, ⟨d, d1⟩, a8, a9⟩ := bx_run (T := T) (U := U) hfp cv s2 t2 (bx ++ [(i, s1)]) (cx ++ [(j, m1)]) c1 hO2 ((hB.up c2 c3).snoc ⟨_, c4, c5⟩ (hq.up c2 c3)) (hq.up c2 c3) (fun m hm => by
        obtain ⟨x', y', g1, g2, g3⟩ := hN m (List.mem_cons_of_mem _ hm)
        exact ⟨x', y', g1, g2, g3.up c2 c3⟩) (by omega)
      have hVl : (bxF T fr s1 cv (s2, bx ++ [(i, s1)])).2.length = bx.length + 1 + b.length := by rw [b1, List.length_append, List.length_append]; rfl
      refine ⟨a1, a2, c2.tr a3, c3.tr a4, a5, ⟨(i, s1) :: b, by rw [b1, List.append_assoc]; rfl, by rw [List.length_cons, List.length_cons]; omega, fun p hp => ?_⟩, ⟨(j, m1) :: d, by rw [d1, List.append_assoc]; rfl⟩, by rw [List.length_cons]; omega, fun m hm hs x' z' hx' hz' => ?_⟩
      · rcases List.mem_cons.mp hp with z | z
        · rw [z]
        · exact b3 p z
      · rcases List.mem_cons.mp hm with z | z
        · rw [z, e1] at hx'; cases hx'
          have e9 := w1.fn hz'
          refine ⟨bx.length, i, Nat.le_refl _, by omega, ?_, ?_⟩
          · rw [b1, List.append_assoc, List.getElem?_append_right (Nat.le_refl _), Nat.sub_self]; rfl
          · rw [← e9]; exact a3.at c4
        · obtain ⟨q, o, g1, g2, g3, g4⟩ := a9 m z hs x' z' hx' (c2.at hz')
          exact ⟨q, o, by rw [List.length_append] at g1; omega, g2, g3, g4⟩
