set_option maxRecDepth 100000
/-! ===== counts ===== -/
theorem pers_10 {T : TrS} (h : TrI T) {ls : List Nat} (hn : ls.Nodup) (hl : ∀ l ∈ ls, T.2.2.2 l ≠ none) : ls.length ≤ 10 := by
  have hm : ∀ l ∈ ls, ∃ p, T.2.2.2 l = some p := fun j hj => by
    cases e : T.2.2.2 j with
    | none => exact absurd e (hl j hj)
    | some p => exact ⟨p, rfl⟩
  have hnd : (ls.map fun j => (T.2.2.2 j).getD 0).Nodup := by
    refine nd_map hn fun a ha b hb e => ?_
    obtain ⟨p, hp⟩ := hm a ha
    obtain ⟨q, hq⟩ := hm b hb
    rw [hp, hq] at e
    have e : p = q := e
    rw [← e] at hq
    exact h.2.2.2.1 a b p hp hq
  have := nodup_len 10 _ hnd (fun p hp => by
    obtain ⟨j, hj, e⟩ := List.mem_map.mp hp
    obtain ⟨q, hq⟩ := hm j hj
    rw [hq] at e
    have e : q = p := e
    rw [← e]; exact (h.2.2.1 j q hq).2)
  rw [List.length_map] at this
  exact this
theorem cnt_10 {T : TrS} (h : TrI T) (n : Nat) : cnt T n ≤ 10 := by
  unfold cnt
  refine pers_10 h (List.Nodup.sublist List.filter_sublist List.nodup_range) fun l hl => ?_
  have := (List.mem_filter.mp hl).2
  rw [Bool.and_eq_true, Option.isSome_iff_ne_none] at this
  exact this.2
theorem tkN_e (T : TrS) : ∀ k, tkN T k = ((List.range k).filter fun l => (T.2.2.2 l).isSome).length
  | 0 => rfl
  | k + 1 => by
    rw [tkN_s, tkN_e T k, List.range_succ, List.filter_append, List.length_append]
    cases e : T.2.2.2 k with
    | none => rw [if_pos rfl, List.filter_cons_of_neg (by rw [e]; simp)]; rfl
    | some p => rw [if_neg (by simp), List.filter_cons_of_pos (by rw [e]; simp)]; rfl
theorem tkN_10 {T : TrS} (h : TrI T) (k : Nat) : tkN T k ≤ 10 := by
  rw [tkN_e]
  refine pers_10 h (List.Nodup.sublist List.filter_sublist List.nodup_range) fun l hl => ?_
  have := (List.mem_filter.mp hl).2
  rw [Option.isSome_iff_ne_none] at this
  exact this
theorem cW_e (pk : Nat → Option Nat) : ∀ k, cW pk k = ((List.range k).filter fun l => (pk l).isSome).length
  | 0 => rfl
  | k + 1 => by
    show cW pk k + (if pk k = none then 0 else 1) = _
    rw [cW_e pk k, List.range_succ, List.filter_append, List.length_append]
    cases e : pk k with
    | none => rw [if_pos rfl, List.filter_cons_of_neg (by rw [e]; simp)]; rfl
    | some p => rw [if_neg (by simp), List.filter_cons_of_pos (by rw [e]; simp)]; rfl
theorem cW_b {pk : Nat → Option Nat} {ids : List Nat} (h1 : ∀ l k, pk l = some k → k ∈ ids) (h2 : ∀ l m k, pk l = some k → pk m = some k → l = m) (k : Nat) : cW pk k ≤ ids.length := by
  rw [cW_e]
  have hm : ∀ l ∈ (List.range k).filter (fun l => (pk l).isSome), ∃ x, pk l = some x := fun l hl => by
    have := (List.mem_filter.mp hl).2
    rw [Option.isSome_iff_exists] at this
    exact this
  have hnd : (((List.range k).filter fun l => (pk l).isSome).map fun l => (pk l).getD 0).Nodup := by
    refine nd_map (List.Nodup.sublist List.filter_sublist List.nodup_range) fun a ha b hb e => ?_
    obtain ⟨p, hp⟩ := hm a ha
    obtain ⟨q, hq⟩ := hm b hb
    rw [hp, hq] at e
    have e : p = q := e
    rw [← e] at hq
    exact h2 a b p hp hq
  have := hnd.length_le_of_subset (l₂ := ids) fun x hx => by
    obtain ⟨l, hl, e⟩ := List.mem_map.mp hx
    obtain ⟨p, hp⟩ := hm l hl
    rw [hp] at e
    have e : p = x := e
    rw [← e]; exact h1 l p hp
  rw [List.length_map] at this
  exact this
theorem LT0_of {T : TrS} (h : TrI T) : LT0 T := by
  intro l
  cases e : T.2.1 (2 * l) with
  | none => exact h.2.2.2.2.2.2.2.1 _ e
  | some x =>
    refine hs_z fun k hb => ?_
    have h1 := h.nd e
    have := (h.2.2.2.2.2.1 _ k hb).2.1
    rw [lev_lf0 l (by omega)] at this; omega
theorem PN_of {T : TrS} (h : TrI T) : PN T := fun l _ => h.2.1 l
theorem PN_q {ss tt : List Sec} {T U : TrS} (h : TrI T) (hQ : TrQ ss tt T U) : PN U := fun l _ => by rw [← hQ.2.2.2, ← (hQ.2.1 _).no]; exact h.2.1 l
theorem LtB_of {T : TrS} (h : TrI T) : LtB T := by
  intro n
  have hp4 := p2_4 h.1
  unfold ltL
  congr 1
  obtain ⟨d, hd⟩ := Nat.le.dest hp4.2
  have e : List.range 16 = List.range (2 ^ T.1) ++ (List.range d).map (2 ^ T.1 + ·) := by rw [← hd, List.range_add]
  rw [e, List.filter_append]
  have : ((List.range d).map (2 ^ T.1 + ·)).filter (hsB (T.2.2.1 n)) = [] := by
    rw [List.filter_eq_nil_iff]
    intro l hl hb
    obtain ⟨j, -, e2⟩ := List.mem_map.mp hl
    obtain ⟨-, -, h3⟩ := h.2.2.2.2.2.1 n l hb
    have := lf_of h h3
    omega
  rw [this, List.append_nil]
theorem LtB_q {ss tt : List Sec} {T U : TrS} (h : TrI T) (hQ : TrQ ss tt T U) : LtB U := by
  intro n
  rw [← hQ.2.2.1, ← hQ.1]
  exact LtB_of h n
/-- who is not removed keeps its packages -/
theorem rm_pk {C : KsS} {D : MdS} (h : Inv C D) {T T1 U1 : TrS} {i : Nat} (hT : (zTs C)[(zTs C).length - 1]? = some T) (hQ : TrQ (zSs C) (dSs D) T1 U1) (hI : TrI T1) (hP : ∀ l, T1.2.2.2 l = T.2.2.2 l) : ∀ k, k ≤ (zRs C).length → (∀ l, (rmM (dRs D) (U1, fun _ => false, dKs D) k).2.1 l = true → T1.2.2.2 l ≠ some i) → pksM (rmM (dRs D) (U1, fun _ => false, dKs D) k).2.2 i = pksM (dKs D) i
  | 0, _, _ => rfl
  | k + 1, hk, hR => by
    obtain ⟨g1, g2, -⟩ := rm_run h hT hQ hI hP k (by omega)
    obtain ⟨q, hq⟩ := get_ex (xs := zRs C) (i := k) (by omega)
    obtain ⟨p, hp, -⟩ := h.2.2.2.2.2.2.2.1.l hq
    have eMs : rmM (dRs D) (U1, fun _ => false, dKs D) (k + 1) = rmM1 (rmM (dRs D) (U1, fun _ => false, dKs D) k) p := fold_tk hp
    have ih := rm_pk h hT hQ hI hP (i := i) k (by omega)
    rw [eMs] at hR ⊢
    generalize rmM (dRs D) (U1, fun _ => false, dKs D) k = V at *
    by_cases e : p.1 = 114
    · cases e2 : V.1.2.2.2 p.2.2 with
      | none =>
        have eM : rmM1 V p = V := by unfold rmM1; rw [if_pos e, e2]
        rw [eM] at hR ⊢; exact ih hR
      | some j =>
        have eM : rmM1 V p = (remT V.1 p.2.2, fup V.2.1 p.2.2 true, V.2.2.map (gnP j)) := by unfold rmM1; rw [if_pos e, e2]
        rw [eM] at hR ⊢
        have e3 : T1.2.2.2 p.2.2 = some j := g2.2.2.2.2.2.1 p.2.2 j (by rw [g1.2.2.2]; exact e2) rfl
        have hji : i ≠ j := fun z => hR p.2.2 (by show fup V.2.1 p.2.2 true p.2.2 = true; unfold fup; rw [if_pos rfl]) (by rw [e3, z])
        show pksM (V.2.2.map (gnP j)) i = _
        rw [pks_gn2 hji]
        refine ih fun l hl => hR l ?_
        show fup V.2.1 p.2.2 true l = true
        unfold fup
        split
        · rfl
        · exact hl
    · have eM : rmM1 V p = V := by unfold rmM1; rw [if_neg e]
      rw [eM] at hR ⊢; exact ih hR
