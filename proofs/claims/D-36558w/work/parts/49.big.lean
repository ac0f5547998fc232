set_option maxRecDepth 100000
/-! many things of a kind, one chunk: P i holds of the i-th piece -/
def Big (n : Nat) (P : Nat → va_W → Prop) (w : va_W) : Prop := ∃ wk : Nat → va_W, (∀ i, i < n → P i (wk i)) ∧ w = ((List.range n).map wk).flatten
theorem big_rg {n i k : Nat} (e : n = i + 1 + k) (wk : Nat → va_W) : ((List.range n).map wk).flatten = ([((List.range i).map wk).flatten, wk i, ((List.range k).map (fun x => wk (i + 1 + x))).flatten] : List va_W).flatten := by
  subst e
  rw [List.range_add, List.range_succ]
  simp [List.map_append, List.flatten_append, Function.comp_def]
theorem Big.opn {n : Nat} {P : Nat → va_W → Prop} {w : va_W} (h : Big n P w) {i : Nat} (hi : i < n) : ∃ w1 wi w2 : va_W, P i wi ∧ (∀ (Q : Nat → va_W → Prop) (wj : va_W), (∀ j, j < n → j ≠ i → ∀ v, P j v → Q j v) → Q i wj → Big n Q ([w1, wj, w2] : List va_W).flatten) ∧ w = ([w1, wi, w2] : List va_W).flatten := by
  obtain ⟨wk, h1, rfl⟩ := h
  obtain ⟨k, e⟩ : ∃ k, n = i + 1 + k := ⟨n - (i + 1), by omega⟩
  refine ⟨_, _, _, h1 i hi, fun Q wj hQ hj => ?_, big_rg e wk⟩
  refine ⟨fun j => if j = i then wj else wk j, fun j hjn => ?_, ?_⟩
  · show Q j (if j = i then wj else wk j)
    split
    · rename_i e; rw [e]; exact hj
    · rename_i e; exact hQ j hjn e _ (h1 j hjn)
  · rw [big_rg e]
    have e1 : (List.range i).map (fun j => if j = i then wj else wk j) = (List.range i).map wk := List.map_congr_left fun j hjm => if_neg (by have := List.mem_range.mp hjm; omega)
    have e2 : (List.range k).map (fun x => (fun j => if j = i then wj else wk j) (i + 1 + x)) = (List.range k).map (fun x => wk (i + 1 + x)) := List.map_congr_left fun x _ => if_neg (by omega)
    rw [e1, e2, if_pos rfl]
theorem Big.push {n : Nat} {P : Nat → va_W → Prop} {w wn : va_W} (h : Big n P w) (hn : P n wn) : Big (n + 1) P ([w, wn] : List va_W).flatten := by
  obtain ⟨wk, h1, rfl⟩ := h
  refine ⟨fun j => if j = n then wn else wk j, fun j hj => ?_, ?_⟩
  · show P j (if j = n then wn else wk j)
    split
    · rename_i e; rw [e]; exact hn
    · exact h1 j (by omega)
  · rw [List.range_succ, List.map_append, List.flatten_append]
    have e1 : (List.range n).map (fun j => if j = n then wn else wk j) = (List.range n).map wk := List.map_congr_left fun j hjm => if_neg (by have := List.mem_range.mp hjm; omega)
    rw [e1]
    simp
theorem Big.nil {P : Nat → va_W → Prop} : Big 0 P ([] : List va_W).flatten := ⟨fun _ => [], fun i h => absurd h (Nat.not_lt_zero i), rfl⟩
theorem Big.mono {n : Nat} {P Q : Nat → va_W → Prop} {w : va_W} (h : Big n P w) (hq : ∀ j, j < n → ∀ v, P j v → Q j v) : Big n Q w := by
  obtain ⟨wk, h1, rfl⟩ := h
  exact ⟨wk, fun i hi => hq i hi _ (h1 i hi), rfl⟩
theorem Big.mem {n : Nat} {P : Nat → va_W → Prop} {w : va_W} (h : Big n P w) {i : Nat} (hi : i < n) : ∃ wi, P i wi ∧ ∀ x ∈ wi, x ∈ w := by
  obtain ⟨w1, wi, w2, h1, -, rfl⟩ := h.opn hi
  exact ⟨wi, h1, fun x hx => List.mem_flatten.mpr ⟨wi, by simp, hx⟩⟩
/-- the i-th thing lies at ps[i] and is as rs[i] says -/
def BigL {α : Type} (F : Nat → α → va_W → Prop) (ps : List Nat) (rs : List α) (w : va_W) : Prop := ps.length = rs.length ∧ Big ps.length (fun i v => ∀ a r, ps[i]? = some a → rs[i]? = some r → F a r v) w
theorem BigL.opn {α : Type} {F : Nat → α → va_W → Prop} {ps : List Nat} {rs : List α} {w : va_W} (h : BigL F ps rs w) {i a : Nat} {r : α} (ha : ps[i]? = some a) (hr : rs[i]? = some r) : ∃ w1 wi w2 : va_W, F a r wi ∧ (∀ (r2 : α) (wj : va_W), F a r2 wj → BigL F ps (rs.set i r2) ([w1, wj, w2] : List va_W).flatten) ∧ w = ([w1, wi, w2] : List va_W).flatten := by
  obtain ⟨hl, hb⟩ := h
  have hi : i < ps.length := (List.getElem?_eq_some_iff.mp ha).1
  obtain ⟨w1, wi, w2, h1, h2, h3⟩ := hb.opn hi
  refine ⟨w1, wi, w2, h1 a r ha hr, fun r2 wj hj => ⟨by rw [List.length_set]; exact hl, ?_⟩, h3⟩
  refine h2 _ wj (fun j hjn hne v hv a' r' ha' hr' => hv a' r' ha' ?_) (fun a' r' ha' hr' => ?_)
  · rw [List.getElem?_set, if_neg (Ne.symm hne)] at hr'; exact hr'
  · rw [ha] at ha'; cases ha'
    rw [List.getElem?_set, if_pos rfl, if_pos (by omega)] at hr'
    cases hr'; exact hj
theorem BigL.push {α : Type} {F : Nat → α → va_W → Prop} {ps : List Nat} {rs : List α} {w wn : va_W} (h : BigL F ps rs w) {a : Nat} {r : α} (hn : F a r wn) : BigL F (ps ++ [a]) (rs ++ [r]) ([w, wn] : List va_W).flatten := by
  obtain ⟨hl, hb⟩ := h
  refine ⟨by simp [hl], ?_⟩
  rw [List.length_append]
  refine Big.push (n := ps.length) (hb.mono fun j hj v hv a' r' ha' hr' => hv a' r' ?_ ?_) (fun a' r' ha' hr' => ?_)
  · rw [List.getElem?_append_left hj] at ha'; exact ha'
  · rw [List.getElem?_append_left (by omega)] at hr'; exact hr'
  · rw [List.getElem?_append_right (Nat.le_refl _)] at ha'
    rw [hl, List.getElem?_append_right (Nat.le_refl _)] at hr'
    simp at ha' hr'
    cases ha'; cases hr'; exact hn
theorem BigL.nil {α : Type} {F : Nat → α → va_W → Prop} : BigL F [] [] ([] : List va_W).flatten := ⟨rfl, Big.nil⟩
theorem BigL.mem {α : Type} {F : Nat → α → va_W → Prop} {ps : List Nat} {rs : List α} {w : va_W} (h : BigL F ps rs w) {i a : Nat} {r : α} (ha : ps[i]? = some a) (hr : rs[i]? = some r) : ∃ wi, F a r wi ∧ ∀ x ∈ wi, x ∈ w := by
  obtain ⟨w1, wi, w2, h1, -, rfl⟩ := h.opn ha hr
  exact ⟨wi, h1, fun x hx => List.mem_flatten.mpr ⟨wi, by simp, hx⟩⟩
theorem BigL.at {α : Type} {F : Nat → α → va_W → Prop} {ps : List Nat} {rs : List α} {w : va_W} (h : BigL F ps rs w) {i : Nat} {r : α} (hr : rs[i]? = some r) : ∃ a, ps[i]? = some a := by
  have := (List.getElem?_eq_some_iff.mp hr).1
  exact ⟨_, List.getElem?_eq_getElem (by rw [h.1]; exact this)⟩
theorem BigL.rat {α : Type} {F : Nat → α → va_W → Prop} {ps : List Nat} {rs : List α} {w : va_W} (h : BigL F ps rs w) {i a : Nat} (ha : ps[i]? = some a) : ∃ r, rs[i]? = some r := by
  have := (List.getElem?_eq_some_iff.mp ha).1
  exact ⟨_, List.getElem?_eq_getElem (by rw [← h.1]; exact this)⟩
theorem BigL.mono {α : Type} {F G : Nat → α → va_W → Prop} {ps : List Nat} {rs : List α} {w : va_W} (h : BigL F ps rs w) (hq : ∀ a r v, r ∈ rs → F a r v → G a r v) : BigL G ps rs w := ⟨h.1, h.2.mono fun j hj v hv a r ha hr => hq a r v (List.mem_of_getElem? hr) (hv a r ha hr)⟩
/-- what lies in an array of things: each has a cell -/
theorem BigL.elt {g : Gv} {α : Type} {F : Nat → α → va_W → Prop} {ps : List Nat} {rs : List α} {w : va_W} (h : BigL F ps rs w) (hf : ∀ a r v, F a r v → Vd g a v) : EltP g ps w := by
  intro y hy
  obtain ⟨i, hi⟩ := List.getElem?_of_mem hy
  obtain ⟨r, hr⟩ := h.rat hi
  obtain ⟨wi, h1, h2⟩ := h.mem hi hr
  rcases hf y r wi h1 with ⟨ci, fs, hc, hm⟩ | z
  · exact Or.inl ⟨ci, fs, hc, h2 _ hm⟩
  · exact Or.inr z
