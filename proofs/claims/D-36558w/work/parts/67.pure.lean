set_option maxRecDepth 100000
/-! ===== own classes: lists of things, secrets, keys ===== -/
/-- as BigL, with any marks -/
def BigG {α β : Type} (F : β → α → va_W → Prop) (ps : List β) (rs : List α) (w : va_W) : Prop := ps.length = rs.length ∧ Big ps.length (fun i v => ∀ a r, ps[i]? = some a → rs[i]? = some r → F a r v) w
theorem BigG.opn {α β : Type} {F : β → α → va_W → Prop} {ps : List β} {rs : List α} {w : va_W} (h : BigG F ps rs w) {i : Nat} {a : β} {r : α} (ha : ps[i]? = some a) (hr : rs[i]? = some r) : ∃ w1 wi w2 : va_W, F a r wi ∧ (∀ wj : va_W, F a r wj → BigG F ps rs ([w1, wj, w2] : List va_W).flatten) ∧ w = ([w1, wi, w2] : List va_W).flatten := by
  obtain ⟨hl, hb⟩ := h
  have hi : i < ps.length := (List.getElem?_eq_some_iff.mp ha).1
  obtain ⟨w1, wi, w2, h1, h2, h3⟩ := hb.opn hi
  refine ⟨w1, wi, w2, h1 a r ha hr, fun wj hj => ⟨hl, ?_⟩, h3⟩
  refine h2 _ wj (fun j hjn hne v hv a' r' ha' hr' => hv a' r' ha' hr') (fun a' r' ha' hr' => ?_)
  rw [ha] at ha'; cases ha'
  rw [hr] at hr'; cases hr'
  exact hj
theorem BigG.push {α β : Type} {F : β → α → va_W → Prop} {ps : List β} {rs : List α} {w wn : va_W} (h : BigG F ps rs w) {a : β} {r : α} (hn : F a r wn) : BigG F (ps ++ [a]) (rs ++ [r]) ([w, wn] : List va_W).flatten := by
  obtain ⟨hl, hb⟩ := h
  refine ⟨by simp [hl], ?_⟩
  rw [List.length_append]
  refine Big.push (n := ps.length) (hb.mono fun j hj v hv a' r' ha' hr' => hv a' r' ?_ ?_) (fun a' r' ha' hr' => ?_)
  · rw [List.getElem?_append_left hj] at ha'; exact ha'
  · rw [List.getElem?_append_left (by omega)] at hr'; exact hr'
  · rw [List.getElem?_append_right (Nat.le_refl _)] at ha'
    rw [hl, List.getElem?_append_right (Nat.le_refl _)] at hr'
    simp at ha' hr'
    cases ha'; cases hr'; exact hn
theorem BigG.nil {α β : Type} {F : β → α → va_W → Prop} : BigG F [] [] ([] : List va_W).flatten := ⟨rfl, Big.nil⟩
theorem BigL.cell {α : Type} {F : Nat → α → va_W → Prop} {ps : List Nat} {rs : List α} {w : va_W} (h : BigL F ps rs w) {i a : Nat} {r : α} {e : Nat × va_E} (ha : ps[i]? = some a) (hr : rs[i]? = some r) (hf : ∀ v, F a r v → e ∈ v) : e ∈ w := by
  obtain ⟨wi, h1, h2⟩ := h.mem ha hr
  exact h2 _ (hf wi h1)
theorem get_ex {α : Type} {xs : List α} {i : Nat} (h : i < xs.length) : ∃ x, xs[i]? = some x := ⟨_, List.getElem?_eq_getElem h⟩
theorem get_lt2 {α : Type} {xs : List α} {i : Nat} {x : α} (h : xs[i]? = some x) : i < xs.length := (List.getElem?_eq_some_iff.mp h).1
/-- the room of a list that has only grown -/
def capF : Nat → Nat
  | 0 => 0
  | n + 1 => if n = capF n then growN (capF n) else capF n
theorem capF_le : ∀ n, n ≤ capF n ∧ capF n ≤ n + n / 2 + 10 ∧ (0 < n → 10 ≤ capF n)
  | 0 => ⟨Nat.le_refl _, by decide, fun h => absurd h (by decide)⟩
  | n + 1 => by
    obtain ⟨h1, h2, h3⟩ := capF_le n
    unfold capF
    split
    · rename_i h
      unfold growN
      split
      · refine ⟨by omega, by omega, fun _ => by omega⟩
      · have := h3 (by omega)
        refine ⟨by omega, by omega, fun _ => by omega⟩
    · rename_i h
      have : 0 < n ∨ n = 0 := by omega
      rcases this with h0 | rfl
      · have := h3 h0; exact ⟨by omega, by omega, fun _ => this⟩
      · exact absurd rfl h
theorem capF_ms (n : Nat) (h : n = capF n) : growN (capF n) ≤ 4 * (capF (n + 1) - capF n) := by
  have e : capF (n + 1) = growN (capF n) := by show (if n = capF n then _ else _) = _; rw [if_pos h]
  have h3 := (capF_le n).2.2
  rw [e]
  unfold growN
  split
  · omega
  · have := h3 (by omega); omega
theorem capF_mo (n : Nat) : capF n ≤ capF (n + 1) := by
  show _ ≤ (if n = capF n then _ else _)
  split
  · unfold growN; split <;> omega
  · exact Nat.le_refl _
theorem capF_s (n : Nat) : (if n = capF n then growN (capF n) else capF n) = capF (n + 1) := rfl
/-! secrets: value, one, other, label (drawn: one = none) -/
abbrev Sec : Type := Int32 × Option Nat × Option Nat × Nat
def sKy (s : Sec) : Option Ky := s.2.1.map fun o => (o, s.2.2.1, s.2.2.2)
/-- the secrets that follow from others: number, key -/
def dv (ss : List Sec) : List (Nat × Ky) := ss.zipIdx.filterMap fun p => (sKy p.1).map fun k => (p.2, k)
def fnd (ss : List Sec) (k : Ky) : Option Nat := (dv ss).findSome? fun d => if d.2 = k then some d.1 else none
def vl (ss : List Sec) (i : Nat) : Int32 := (ss[i]?.map (·.1)).getD 0
def fvl (ss : List Sec) (k : Ky) : Int32 := match k.2.1 with
  | none => mixI (vl ss k.1) (nI k.2.2)
  | some q => mixI (mixI (vl ss k.1) (vl ss q)) (nI k.2.2)
/-- what follows by the key: the secrets then, and its number -/
def frm (ss : List Sec) (k : Ky) : List Sec × Nat := match fnd ss k with
  | some i => (ss, i)
  | none => (ss ++ [(fvl ss k, some k.1, k.2.1, k.2.2)], ss.length)
/-- each follows from earlier ones; keys are such as are met, and all different -/
def SsOk (ss : List Sec) : Prop := (∀ d ∈ dv ss, kOk d.2 ∧ d.1 < ss.length ∧ d.2.1 < d.1 ∧ ∀ q, d.2.2.1 = some q → q < d.1) ∧ ((dv ss).map (·.2)).Nodup
def hsh (k : Ky) : Int32 := spr (nI (hN (kTx k)))
def hst (p : List Int32 × Nat) (k : Ky) : List Int32 × Nat := (p.1 ++ [hsh k], hgr (p.1.map fun h => (h, 0, 0)) p.2 (hsh k))
/-- the room of the map of all that follows -/
def Hc (ss : List Sec) : Nat := (((dv ss).map (·.2)).foldl hst ([], 0)).2
theorem hst_1 : ∀ (ks : List Ky) (p : List Int32 × Nat), (ks.foldl hst p).1 = p.1 ++ ks.map hsh
  | [], p => by simp
  | k :: ks, p => by rw [List.foldl_cons, hst_1 ks]; simp [hst]
theorem tfX_len : ∀ (xs : List Tp) (cap b : Nat), (tfX xs cap b).length = (tfX ((xs.map (·.1)).map fun h => (h, 0, 0)) cap b).length
  | [], _, _ => rfl
  | x :: t, cap, b => by
    have ih := tfX_len t cap b
    unfold tfX at ih ⊢
    simp only [List.map_cons, List.filter_cons]
    split
    · simp only [List.length_cons]; rw [ih]
    · exact ih
theorem hgr_h (xs : List Tp) (cap : Nat) (hh : Int32) : hgr xs cap hh = hgr ((xs.map (·.1)).map fun h => (h, 0, 0)) cap hh := by
  unfold hgr c1z
  rw [tfX_len]
  simp
theorem dv_app (ss : List Sec) (s : Sec) : dv (ss ++ [s]) = dv ss ++ (match sKy s with
  | some k => [(ss.length, k)]
  | none => []) := by
  unfold dv
  rw [List.zipIdx_append, List.filterMap_append]
  simp only [List.zipIdx_cons, List.zipIdx_nil, Nat.zero_add, List.filterMap_cons, List.filterMap_nil]
  cases sKy s <;> rfl
theorem Hc_app (ss : List Sec) {s : Sec} {k : Ky} (h : sKy s = some k) (xs : List Tp) (hx : xs.map (·.1) = (dv ss).map fun d => hsh d.2) : hgr xs (Hc ss) (hsh k) = Hc (ss ++ [s]) := by
  rw [hgr_h, hx]
  unfold Hc
  rw [dv_app, h]
  simp only [List.map_append, List.map_cons, List.map_nil, List.foldl_append, List.foldl_cons, List.foldl_nil]
  show _ = hgr ((List.foldl hst ([], 0) ((dv ss).map (·.2))).1.map fun h => (h, 0, 0)) (List.foldl hst ([], 0) ((dv ss).map (·.2))).2 (hsh k)
  rw [hst_1]
  simp [List.map_map, Function.comp_def]
theorem Hc_dr (ss : List Sec) {s : Sec} (h : sKy s = none) : Hc (ss ++ [s]) = Hc ss ∧ dv (ss ++ [s]) = dv ss := by
  have e : dv (ss ++ [s]) = dv ss := by rw [dv_app, h]; simp
  exact ⟨by unfold Hc; rw [e], e⟩
theorem kOk_len {k : Ky} (h : kOk k) : 2 ≤ (kTx k).length := by
  have hd : ∀ n, 1 ≤ (dec n).length := fun n => by unfold dec; split; simp; split <;> simp
  obtain ⟨a, o, l⟩ := k
  have h1 := hd a
  have h2 := hd l
  cases o with
  | none => simp [kTx]; omega
  | some b => simp [kTx]; omega
theorem nI_hM {a b : Nat} (h : nI a = nI b) : a % hM = b % hM := by
  have z := congrArg Int32.toBitVec h
  have z2 := congrArg BitVec.toNat z
  have e : ∀ n : Nat, (nI n).toBitVec.toNat = n % hM := fun n => by
    show (Int32.ofNat n).toBitVec.toNat = _
    rw [Int32.toBitVec_ofNat']
    exact BitVec.toNat_ofNat n 32
  rw [e, e] at z2
  exact z2
theorem hsh_inj {k1 k2 : Ky} (h1 : kOk k1) (h2 : kOk k2) (h : hsh k1 = hsh k2) : k1 = k2 := ky_inj h1 h2 (nI_hM (spr_inj h))
theorem fnd_n {ss : List Sec} {k : Ky} (h : fnd ss k = none) : ∀ d ∈ dv ss, d.2 ≠ k := by
  intro d hd he
  unfold fnd at h
  rw [List.findSome?_eq_none_iff] at h
  have := h d hd
  rw [if_pos he] at this
  cases this
theorem fnd_s {ss : List Sec} {k : Ky} {i : Nat} (h : fnd ss k = some i) : (i, k) ∈ dv ss := by
  unfold fnd at h
  obtain ⟨d, hd, h2⟩ := List.exists_of_findSome?_eq_some h
  split at h2
  · rename_i e; cases h2; rw [← e]; exact hd
  · cases h2
