set_option maxRecDepth 100000
/-- the small Integer k -/
def kI (g : Gv) (k : Nat) : Nat := gA g (1000 + (128 + k))
theorem kI_c : ∀ k, k < 128 → nI k = vb_c (128 + k) := by decide +kernel
theorem kI_box (g : Gv) {k : Nat} (hk : k < 128) : BoxP g (kI g k) (nI k) ([] : List va_W).flatten := Or.inr ⟨128 + k, by omega, rfl, kI_c k hk, rfl⟩
theorem fl_atw : ∀ {L : List va_W} {k i : Nat} {w : va_W} {x : Nat × va_E}, L[k]? = some w → w[i]? = some x → ∃ j, L.flatten[j]? = some x ∧ ∀ y, L.flatten.set j y = (L.set k (w.set i y)).flatten
  | [], k, i, w, x, h, _ => by simp at h
  | c :: t, 0, i, w, x, h, hi => by
    rw [List.getElem?_cons_zero] at h
    cases h
    have hl : i < c.length := (List.getElem?_eq_some_iff.mp hi).1
    refine ⟨i, ?_, fun y => ?_⟩
    · rw [List.flatten_cons, List.getElem?_append_left hl]; exact hi
    · rw [List.flatten_cons, List.set_append_left _ _ hl]; rfl
  | c :: t, k + 1, i, w, x, h, hi => by
    rw [List.getElem?_cons_succ] at h
    obtain ⟨j, h1, h2⟩ := fl_atw h hi
    refine ⟨c.length + j, ?_, fun y => ?_⟩
    · rw [List.flatten_cons, List.getElem?_append_right (Nat.le_add_right _ _), Nat.add_sub_cancel_left]; exact h1
    · rw [List.flatten_cons, List.set_append_right _ _ (Nat.le_add_right _ _), Nat.add_sub_cancel_left, h2]; rfl
/-- the entries of a TreeMap: places ns, their fields as functions -/
def EntG (g : Gv) (ns : List Nat) (key val : Nat → Nat) (l r p : Nat → Option Nat) (col : Nat → Bool) (w : va_W) : Prop := ns.Nodup ∧ w = ns.map fun a => (a, .inr (28, [.ref (kI g (key a)), .ref (val a), va_rf (l a), va_rf (r a), va_rf (p a), .int (nI (if col a = true then 1 else 0))]))
theorem EntG.mem {g : Gv} {ns : List Nat} {key val : Nat → Nat} {l r p : Nat → Option Nat} {col : Nat → Bool} {w : va_W} (h : EntG g ns key val l r p col w) {a : Nat} (ha : a ∈ ns) : (a, .inr (28, [.ref (kI g (key a)), .ref (val a), va_rf (l a), va_rf (r a), va_rf (p a), .int (nI (if col a = true then 1 else 0))])) ∈ w := by
  rw [h.2]; exact List.mem_map.mpr ⟨a, ha, rfl⟩
theorem EntG.nm {g : Gv} {ns : List Nat} {key val : Nat → Nat} {l r p : Nat → Option Nat} {col : Nat → Bool} {w : va_W} (h : EntG g ns key val l r p col w) {a : Nat} {e : va_E} (ha : (a, e) ∈ w) : a ∈ ns := by
  rw [h.2] at ha
  obtain ⟨b, hb, e⟩ := List.mem_map.mp ha
  cases e; exact hb
theorem EntG.congr {g : Gv} {ns : List Nat} {key val : Nat → Nat} {l r p : Nat → Option Nat} {col : Nat → Bool} {w : va_W} {key2 val2 : Nat → Nat} {l2 r2 p2 : Nat → Option Nat} {col2 : Nat → Bool} (h : EntG g ns key val l r p col w) (e : ∀ a ∈ ns, key a = key2 a ∧ val a = val2 a ∧ l a = l2 a ∧ r a = r2 a ∧ p a = p2 a ∧ col a = col2 a) : EntG g ns key2 val2 l2 r2 p2 col2 w := by
  refine ⟨h.1, h.2.trans (List.map_congr_left fun a ha => ?_)⟩
  obtain ⟨e1, e2, e3, e4, e5, e6⟩ := e a ha
  rw [e1, e2, e3, e4, e5, e6]
theorem map_set {β : Type} {ns : List Nat} {F G : Nat → β} {i a : Nat} (hn : ns.Nodup) (hi : ns[i]? = some a) (h : ∀ b, b ≠ a → F b = G b) : (ns.map F).set i (G a) = ns.map G := by
  apply List.ext_getElem?
  intro j
  rw [List.getElem?_set]
  by_cases hj : i = j
  · subst hj
    have hl := (List.getElem?_eq_some_iff.mp hi).1
    rw [if_pos rfl, List.length_map, if_pos hl, List.getElem?_map, hi]; rfl
  · rw [if_neg hj, List.getElem?_map, List.getElem?_map]
    cases e : ns[j]? with
    | none => rfl
    | some b =>
      have : b ≠ a := by
        rintro rfl
        obtain ⟨h1, h1'⟩ := List.getElem?_eq_some_iff.mp hi
        obtain ⟨h2, h2'⟩ := List.getElem?_eq_some_iff.mp e
        exact hj ((List.getElem_inj hn).mp (h1'.trans h2'.symm))
      exact congrArg some (h b this)
section
variable {g : Gv} {κ : Kx} {own : String} {cc : ByteArray} {nL : Nat} {ret : Option FieldType} {lvl : Nat} {pc q : Nat} {lv : List (Option Value)} {st : List Value} {L : List va_W} {kc ks : Nat}
theorem g_fg (i : Nat) {lv2 : List (Option Value)} (hl : lv.set i none = lv2) (kk : Go g κ pc lv2 st L kc ks) : Go g κ pc lv st L kc ks := by
  obtain ⟨p, l, e, R, s, m, args, below, meth, c, A, mc, ms, Q⟩ := κ
  intro H locs cells slots ls h1 h2 h3 h4 h5
  refine kk H locs cells slots ls ⟨?_, h1.2.1, fun j v hj => h1.2.2 j v ?_⟩ h2 h3 h4 h5
  · rw [← hl, List.length_set]; exact h1.1
  · rw [← hl, List.getElem?_set] at hj
    split at hj
    · split at hj <;> simp at hj
    · exact hj
theorem g_putW (B : Fx g κ own cc nL ret lvl) {C ref : String} {T : u_T} {N ci index k j i : Nat} {a : Nat} {fs : List Value} {v : Value} {w w2 : va_W} (hin : ∀ w ∈ u_ws C T N, w ∈ lw_all) (ty0 : Nat → FieldType) (hty : ∀ k, k < N → parseFieldDescriptor (T k).2.2.1 = some (ty0 k)) (hnm : ∀ a, a < N → ∀ b, b < N → a ≠ b → (T a).2.1 ≠ (T b).2.1) (hc : gCL[ci]? = some (C, T, N)) (d : decode cc pc = .ok (.putfield index, 3)) (hq : pc + 3 = q) (hL : L[k]? = some w) (hi : w[i]? = some (a, .inr (ci, fs))) (hj : j < N) (hl : Cond.fieldLink own index ref (T j).2.1 (T j).2.2.1 ∈ lw_all) (hs : (T j).1 = ref) (hfin : (T j).2.2.2 = false) (hnr : narrow (ty0 j) v = v) (hfit : fits (ty0 j) v = true) (hlen : j < fs.length) (hw2 : w.set i (a, .inr (ci, fs.set j v)) = w2) (kk : Go g κ q lv st (L.set k w2) kc ks) : Go g κ pc lv (v :: .ref a :: st) L kc ks := by
  obtain ⟨p, l, e, R, s, m, args, below, meth, c, A, mc, ms, Q⟩ := κ
  obtain ⟨⟨hx, hb, hml, hown, hts⟩, ⟨hr, hlk⟩, ⟨hst, hE, hA⟩, hR1, hR2, hR3, hR4⟩ := B
  subst hq
  intro H locs cells slots ls h1 h2 h3 h4 h5
  obtain ⟨i2, hi1, hi2⟩ := fl_atw hL hi
  exact va_put hx hb hts hin ty0 hty hnm hown hE.1 h4.1 h4.2 h5 i2 hi1 hc j hj (hts _ hl) (fun x h => by rw [← hs]; exact h) hfin (hty j hj) hnr hfit hlen d (fun H1 locs1 w1 w2 w3 => kk H1 locs1 cells slots ls h1 h2 h3 ⟨by rw [← hw2, ← hi2]; exact w1, by rw [← hw2, ← hi2]; exact w2⟩ w3)
theorem g_putE0 (B : Fx g κ own cc nL ret lvl) {ns : List Nat} {key val : Nat → Nat} {l r p : Nat → Option Nat} {col : Nat → Bool} {index k b : Nat} {x : Nat} {w : va_W} (h : EntG g ns key val l r p col w) (hb : b ∈ ns) (d : decode cc pc = .ok (.putfield index, 3)) (hq : pc + 3 = q) (hL : L[k]? = some w) (hl : Cond.fieldLink own index "java/util/TreeMap$Entry" (TJ37 0).2.1 (TJ37 0).2.2.1 ∈ lw_all) (kk : ∀ w2, EntG g ns (fup key b x) val l r p col w2 → Go g κ q lv st (L.set k w2) kc ks) : Go g κ pc lv (.ref (kI g x) :: .ref b :: st) L kc ks := by
  obtain ⟨i, hi⟩ := List.getElem?_of_mem hb
  refine g_putW (ci := 28) (j := 0) (i := i) B in_J37 tyJ37 tyJ37_ok nmJ37 rfl d hq hL (by rw [h.2, List.getElem?_map, hi]; rfl) (Nat.le_of_ble_eq_true rfl) hl rfl rfl rfl rfl (Nat.le_of_ble_eq_true rfl) rfl (kk _ ⟨h.1, ?_⟩)
  rw [h.2]
  refine Eq.trans ?_ (map_set (F := (fun a => (a, Sum.inr (28, [.ref (kI g (key a)), .ref (val a), va_rf (l a), va_rf (r a), va_rf (p a), .int (nI (if col a = true then 1 else 0))])))) (G := (fun a => (a, Sum.inr (28, [.ref (kI g (fup key b x a)), .ref (val a), va_rf (l a), va_rf (r a), va_rf (p a), .int (nI (if col a = true then 1 else 0))])))) h.1 hi (fun c hc => by simp only [fup_n hc]))
  simp only [fup_s]
  rfl
theorem g_putE1 (B : Fx g κ own cc nL ret lvl) {ns : List Nat} {key val : Nat → Nat} {l r p : Nat → Option Nat} {col : Nat → Bool} {index k b : Nat} {x : Nat} {w : va_W} (h : EntG g ns key val l r p col w) (hb : b ∈ ns) (d : decode cc pc = .ok (.putfield index, 3)) (hq : pc + 3 = q) (hL : L[k]? = some w) (hl : Cond.fieldLink own index "java/util/TreeMap$Entry" (TJ37 1).2.1 (TJ37 1).2.2.1 ∈ lw_all) (kk : ∀ w2, EntG g ns key (fup val b x) l r p col w2 → Go g κ q lv st (L.set k w2) kc ks) : Go g κ pc lv (.ref x :: .ref b :: st) L kc ks := by
  obtain ⟨i, hi⟩ := List.getElem?_of_mem hb
  refine g_putW (ci := 28) (j := 1) (i := i) B in_J37 tyJ37 tyJ37_ok nmJ37 rfl d hq hL (by rw [h.2, List.getElem?_map, hi]; rfl) (Nat.le_of_ble_eq_true rfl) hl rfl rfl rfl rfl (Nat.le_of_ble_eq_true rfl) rfl (kk _ ⟨h.1, ?_⟩)
  rw [h.2]
  refine Eq.trans ?_ (map_set (F := (fun a => (a, Sum.inr (28, [.ref (kI g (key a)), .ref (val a), va_rf (l a), va_rf (r a), va_rf (p a), .int (nI (if col a = true then 1 else 0))])))) (G := (fun a => (a, Sum.inr (28, [.ref (kI g (key a)), .ref (fup val b x a), va_rf (l a), va_rf (r a), va_rf (p a), .int (nI (if col a = true then 1 else 0))])))) h.1 hi (fun c hc => by simp only [fup_n hc]))
  simp only [fup_s]
  rfl
theorem g_putE2 (B : Fx g κ own cc nL ret lvl) {ns : List Nat} {key val : Nat → Nat} {l r p : Nat → Option Nat} {col : Nat → Bool} {index k b : Nat} {x : Option Nat} {w : va_W} (h : EntG g ns key val l r p col w) (hb : b ∈ ns) (d : decode cc pc = .ok (.putfield index, 3)) (hq : pc + 3 = q) (hL : L[k]? = some w) (hl : Cond.fieldLink own index "java/util/TreeMap$Entry" (TJ37 2).2.1 (TJ37 2).2.2.1 ∈ lw_all) (kk : ∀ w2, EntG g ns key val (fup l b x) r p col w2 → Go g κ q lv st (L.set k w2) kc ks) : Go g κ pc lv (va_rf x :: .ref b :: st) L kc ks := by
  obtain ⟨i, hi⟩ := List.getElem?_of_mem hb
  refine g_putW (ci := 28) (j := 2) (i := i) B in_J37 tyJ37 tyJ37_ok nmJ37 rfl d hq hL (by rw [h.2, List.getElem?_map, hi]; rfl) (Nat.le_of_ble_eq_true rfl) hl rfl rfl (by cases x <;> rfl) (by cases x <;> rfl) (Nat.le_of_ble_eq_true rfl) rfl (kk _ ⟨h.1, ?_⟩)
  rw [h.2]
  refine Eq.trans ?_ (map_set (F := (fun a => (a, Sum.inr (28, [.ref (kI g (key a)), .ref (val a), va_rf (l a), va_rf (r a), va_rf (p a), .int (nI (if col a = true then 1 else 0))])))) (G := (fun a => (a, Sum.inr (28, [.ref (kI g (key a)), .ref (val a), va_rf (fup l b x a), va_rf (r a), va_rf (p a), .int (nI (if col a = true then 1 else 0))])))) h.1 hi (fun c hc => by simp only [fup_n hc]))
  simp only [fup_s]
  rfl
theorem g_putE3 (B : Fx g κ own cc nL ret lvl) {ns : List Nat} {key val : Nat → Nat} {l r p : Nat → Option Nat} {col : Nat → Bool} {index k b : Nat} {x : Option Nat} {w : va_W} (h : EntG g ns key val l r p col w) (hb : b ∈ ns) (d : decode cc pc = .ok (.putfield index, 3)) (hq : pc + 3 = q) (hL : L[k]? = some w) (hl : Cond.fieldLink own index "java/util/TreeMap$Entry" (TJ37 3).2.1 (TJ37 3).2.2.1 ∈ lw_all) (kk : ∀ w2, EntG g ns key val l (fup r b x) p col w2 → Go g κ q lv st (L.set k w2) kc ks) : Go g κ pc lv (va_rf x :: .ref b :: st) L kc ks := by
  obtain ⟨i, hi⟩ := List.getElem?_of_mem hb
  refine g_putW (ci := 28) (j := 3) (i := i) B in_J37 tyJ37 tyJ37_ok nmJ37 rfl d hq hL (by rw [h.2, List.getElem?_map, hi]; rfl) (Nat.le_of_ble_eq_true rfl) hl rfl rfl (by cases x <;> rfl) (by cases x <;> rfl) (Nat.le_of_ble_eq_true rfl) rfl (kk _ ⟨h.1, ?_⟩)
  rw [h.2]
  refine Eq.trans ?_ (map_set (F := (fun a => (a, Sum.inr (28, [.ref (kI g (key a)), .ref (val a), va_rf (l a), va_rf (r a), va_rf (p a), .int (nI (if col a = true then 1 else 0))])))) (G := (fun a => (a, Sum.inr (28, [.ref (kI g (key a)), .ref (val a), va_rf (l a), va_rf (fup r b x a), va_rf (p a), .int (nI (if col a = true then 1 else 0))])))) h.1 hi (fun c hc => by simp only [fup_n hc]))
  simp only [fup_s]
  rfl
theorem g_putE4 (B : Fx g κ own cc nL ret lvl) {ns : List Nat} {key val : Nat → Nat} {l r p : Nat → Option Nat} {col : Nat → Bool} {index k b : Nat} {x : Option Nat} {w : va_W} (h : EntG g ns key val l r p col w) (hb : b ∈ ns) (d : decode cc pc = .ok (.putfield index, 3)) (hq : pc + 3 = q) (hL : L[k]? = some w) (hl : Cond.fieldLink own index "java/util/TreeMap$Entry" (TJ37 4).2.1 (TJ37 4).2.2.1 ∈ lw_all) (kk : ∀ w2, EntG g ns key val l r (fup p b x) col w2 → Go g κ q lv st (L.set k w2) kc ks) : Go g κ pc lv (va_rf x :: .ref b :: st) L kc ks := by
  obtain ⟨i, hi⟩ := List.getElem?_of_mem hb
  refine g_putW (ci := 28) (j := 4) (i := i) B in_J37 tyJ37 tyJ37_ok nmJ37 rfl d hq hL (by rw [h.2, List.getElem?_map, hi]; rfl) (Nat.le_of_ble_eq_true rfl) hl rfl rfl (by cases x <;> rfl) (by cases x <;> rfl) (Nat.le_of_ble_eq_true rfl) rfl (kk _ ⟨h.1, ?_⟩)
  rw [h.2]
  refine Eq.trans ?_ (map_set (F := (fun a => (a, Sum.inr (28, [.ref (kI g (key a)), .ref (val a), va_rf (l a), va_rf (r a), va_rf (p a), .int (nI (if col a = true then 1 else 0))])))) (G := (fun a => (a, Sum.inr (28, [.ref (kI g (key a)), .ref (val a), va_rf (l a), va_rf (r a), va_rf (fup p b x a), .int (nI (if col a = true then 1 else 0))])))) h.1 hi (fun c hc => by simp only [fup_n hc]))
  simp only [fup_s]
  rfl
theorem g_putE5 (B : Fx g κ own cc nL ret lvl) {ns : List Nat} {key val : Nat → Nat} {l r p : Nat → Option Nat} {col : Nat → Bool} {index k b : Nat} {x : Bool} {w : va_W} (h : EntG g ns key val l r p col w) (hb : b ∈ ns) (d : decode cc pc = .ok (.putfield index, 3)) (hq : pc + 3 = q) (hL : L[k]? = some w) (hl : Cond.fieldLink own index "java/util/TreeMap$Entry" (TJ37 5).2.1 (TJ37 5).2.2.1 ∈ lw_all) (kk : ∀ w2, EntG g ns key val l r p (fup col b x) w2 → Go g κ q lv st (L.set k w2) kc ks) : Go g κ pc lv (.int (nI (if x = true then 1 else 0)) :: .ref b :: st) L kc ks := by
  obtain ⟨i, hi⟩ := List.getElem?_of_mem hb
  refine g_putW (ci := 28) (j := 5) (i := i) B in_J37 tyJ37 tyJ37_ok nmJ37 rfl d hq hL (by rw [h.2, List.getElem?_map, hi]; rfl) (Nat.le_of_ble_eq_true rfl) hl rfl rfl (by cases x <;> rfl) (by cases x <;> rfl) (Nat.le_of_ble_eq_true rfl) rfl (kk _ ⟨h.1, ?_⟩)
  rw [h.2]
  refine Eq.trans ?_ (map_set (F := (fun a => (a, Sum.inr (28, [.ref (kI g (key a)), .ref (val a), va_rf (l a), va_rf (r a), va_rf (p a), .int (nI (if col a = true then 1 else 0))])))) (G := (fun a => (a, Sum.inr (28, [.ref (kI g (key a)), .ref (val a), va_rf (l a), va_rf (r a), va_rf (p a), .int (nI (if fup col b x a = true then 1 else 0))])))) h.1 hi (fun c hc => by simp only [fup_n hc]))
  simp only [fup_s]
  rfl
end
theorem tr_lm {ns : List Nat} {key : Nat → Nat} {l r p : Nat → Option Nat} {lo hi : Nat → Nat} {root : Option Nat} {M : Nat} (h : Tr ns key l r p lo hi root M) {a b : Nat} (ha : a ∈ ns) (e : l a = some b) : b ∈ ns := (h.2.2.2.1 a ha b e).1
theorem tr_rm {ns : List Nat} {key : Nat → Nat} {l r p : Nat → Option Nat} {lo hi : Nat → Nat} {root : Option Nat} {M : Nat} (h : Tr ns key l r p lo hi root M) {a b : Nat} (ha : a ∈ ns) (e : r a = some b) : b ∈ ns := (h.2.2.2.2.2.1 a ha b e).1
theorem tr_pm {ns : List Nat} {key : Nat → Nat} {l r p : Nat → Option Nat} {lo hi : Nat → Nat} {root : Option Nat} {M : Nat} (h : Tr ns key l r p lo hi root M) {a b : Nat} (ha : a ∈ ns) (e : p a = some b) : b ∈ ns := (h.2.2.2.2.2.2.2.1 a ha b e).1
theorem tr_tm {ns : List Nat} {key : Nat → Nat} {l r p : Nat → Option Nat} {lo hi : Nat → Nat} {root : Option Nat} {M : Nat} (h : Tr ns key l r p lo hi root M) {a : Nat} (e : root = some a) : a ∈ ns := (h.2.2.2.2.2.2.2.2.2 a e).1
theorem rc_ent {g : Gv} {κ : Kx} {own : String} {cc : ByteArray} {nL : Nat} {ret : Option FieldType} {lvl : Nat} {L : List va_W} (B : Fx g κ own cc nL ret lvl) {k : Nat} {ns : List Nat} {key val : Nat → Nat} {l r p : Nat → Option Nat} {col : Nat → Bool} {w : va_W} (hL : L[k]? = some w) (h : EntG g ns key val l r p col w) {a : Nat} (ha : a ∈ ns) : Rec g κ L a "java/util/TreeMap$Entry" := rc_in B (ci := 28) rfl hL ⟨_, h.mem ha⟩
def og (f : Nat → Option Nat) (x : Option Nat) : Option Nat := match x with
  | none => none
  | some a => f a
def oc (f : Nat → Bool) (x : Option Nat) : Bool := match x with
  | none => true
  | some a => f a
def om (ns : List Nat) (x : Option Nat) : Prop := match x with
  | none => True
  | some a => a ∈ ns
def oset (f : Nat → Bool) (x : Option Nat) (c : Bool) : Nat → Bool := match x with
  | none => f
  | some a => fup f a c
theorem ct_J10_parentOf (g : Gv) (J : Jd g) {ns : List Nat} {key : Nat → Nat} {val : Nat → Nat} {l : Nat → Option Nat} {r : Nat → Option Nat} {p : Nat → Option Nat} {col : Nat → Bool} {x : Option Nat} {w0 : va_W} (hw0 : EntG g ns key val l r p col w0) (hx : om ns x) : Ct g yJ10_parentOf (ws_ yJ10_parentOf cJ10_parentOf 1 (some (.object "java/util/TreeMap$Entry"))) 0 0 0 [va_rf x] [w0] (fun (rv_ : Option Value) (rL_ : List va_W) => rv_ = some (va_rf (og p x)) ∧ rL_ = [w0]) noX := by
  refine Ct.of "java/util/TreeMap" [some (va_rf x)] rfl (by decide) rfl (by simp [lg_sl, cat_i, cat_r, cat_n, cat_l, cat_o]) (by simp [lprs, lv_args, cat_i, cat_r, cat_n, cat_l, cat_o]) ?_
  intro κ B E tb
  refine g_aload_n (q := 1) B dJ10_parentOf_0 rfl rfl (rv_o _) ?_
  refine g_ifnonnull_o (tgt := 8) (q := 4) B dJ10_parentOf_1 rfl (by decide) (fun x_a1 c1 => ?_) (fun c1 => ?_)
  · skip
    subst c1
    refine g_aload_n (q := 9) B dJ10_parentOf_8 rfl rfl (rv_r _) ?_
    refine g_getM (v := va_rf (p x_a1)) (q := 12) B (ci := 28) (k := 0) (j := 4) in_J37 rfl dJ10_parentOf_9 rfl rfl (EntG.mem hw0 hx) (Nat.le_of_ble_eq_true rfl) q2117 rfl rfl ?_
    exact g_aret B E dJ10_parentOf_12 (by first | exact Or.inl ⟨_, rfl⟩ | exact Or.inr ⟨_, rfl⟩) (rv_o _) (⟨rfl, rfl⟩)
  · skip
    subst c1
    refine g_aconst_null (q := 5) B dJ10_parentOf_4 rfl ?_
    refine g_goto (tgt := 12) B dJ10_parentOf_5 (by decide) ?_
    exact g_aret B E dJ10_parentOf_12 (by first | exact Or.inl ⟨_, rfl⟩ | exact Or.inr ⟨_, rfl⟩) rv_n (⟨rfl, rfl⟩)
theorem ct_J10_leftOf (g : Gv) (J : Jd g) {ns : List Nat} {key : Nat → Nat} {val : Nat → Nat} {l : Nat → Option Nat} {r : Nat → Option Nat} {p : Nat → Option Nat} {col : Nat → Bool} {x : Option Nat} {w0 : va_W} (hw0 : EntG g ns key val l r p col w0) (hx : om ns x) : Ct g yJ10_leftOf (ws_ yJ10_leftOf cJ10_leftOf 1 (some (.object "java/util/TreeMap$Entry"))) 0 0 0 [va_rf x] [w0] (fun (rv_ : Option Value) (rL_ : List va_W) => rv_ = some (va_rf (og l x)) ∧ rL_ = [w0]) noX := by
  refine Ct.of "java/util/TreeMap" [some (va_rf x)] rfl (by decide) rfl (by simp [lg_sl, cat_i, cat_r, cat_n, cat_l, cat_o]) (by simp [lprs, lv_args, cat_i, cat_r, cat_n, cat_l, cat_o]) ?_
  intro κ B E tb
  refine g_aload_n (q := 1) B dJ10_leftOf_0 rfl rfl (rv_o _) ?_
  refine g_ifnonnull_o (tgt := 8) (q := 4) B dJ10_leftOf_1 rfl (by decide) (fun x_a1 c1 => ?_) (fun c1 => ?_)
  · skip
    subst c1
    refine g_aload_n (q := 9) B dJ10_leftOf_8 rfl rfl (rv_r _) ?_
    refine g_getM (v := va_rf (l x_a1)) (q := 12) B (ci := 28) (k := 0) (j := 2) in_J37 rfl dJ10_leftOf_9 rfl rfl (EntG.mem hw0 hx) (Nat.le_of_ble_eq_true rfl) q2113 rfl rfl ?_
    exact g_aret B E dJ10_leftOf_12 (by first | exact Or.inl ⟨_, rfl⟩ | exact Or.inr ⟨_, rfl⟩) (rv_o _) (⟨rfl, rfl⟩)
  · skip
    subst c1
    refine g_aconst_null (q := 5) B dJ10_leftOf_4 rfl ?_
    refine g_goto (tgt := 12) B dJ10_leftOf_5 (by decide) ?_
    exact g_aret B E dJ10_leftOf_12 (by first | exact Or.inl ⟨_, rfl⟩ | exact Or.inr ⟨_, rfl⟩) rv_n (⟨rfl, rfl⟩)
theorem ct_J10_rightOf (g : Gv) (J : Jd g) {ns : List Nat} {key : Nat → Nat} {val : Nat → Nat} {l : Nat → Option Nat} {r : Nat → Option Nat} {p : Nat → Option Nat} {col : Nat → Bool} {x : Option Nat} {w0 : va_W} (hw0 : EntG g ns key val l r p col w0) (hx : om ns x) : Ct g yJ10_rightOf (ws_ yJ10_rightOf cJ10_rightOf 1 (some (.object "java/util/TreeMap$Entry"))) 0 0 0 [va_rf x] [w0] (fun (rv_ : Option Value) (rL_ : List va_W) => rv_ = some (va_rf (og r x)) ∧ rL_ = [w0]) noX := by
  refine Ct.of "java/util/TreeMap" [some (va_rf x)] rfl (by decide) rfl (by simp [lg_sl, cat_i, cat_r, cat_n, cat_l, cat_o]) (by simp [lprs, lv_args, cat_i, cat_r, cat_n, cat_l, cat_o]) ?_
  intro κ B E tb
  refine g_aload_n (q := 1) B dJ10_rightOf_0 rfl rfl (rv_o _) ?_
  refine g_ifnonnull_o (tgt := 8) (q := 4) B dJ10_rightOf_1 rfl (by decide) (fun x_a1 c1 => ?_) (fun c1 => ?_)
  · skip
    subst c1
    refine g_aload_n (q := 9) B dJ10_rightOf_8 rfl rfl (rv_r _) ?_
    refine g_getM (v := va_rf (r x_a1)) (q := 12) B (ci := 28) (k := 0) (j := 3) in_J37 rfl dJ10_rightOf_9 rfl rfl (EntG.mem hw0 hx) (Nat.le_of_ble_eq_true rfl) q2115 rfl rfl ?_
    exact g_aret B E dJ10_rightOf_12 (by first | exact Or.inl ⟨_, rfl⟩ | exact Or.inr ⟨_, rfl⟩) (rv_o _) (⟨rfl, rfl⟩)
  · skip
    subst c1
    refine g_aconst_null (q := 5) B dJ10_rightOf_4 rfl ?_
    refine g_goto (tgt := 12) B dJ10_rightOf_5 (by decide) ?_
    exact g_aret B E dJ10_rightOf_12 (by first | exact Or.inl ⟨_, rfl⟩ | exact Or.inr ⟨_, rfl⟩) rv_n (⟨rfl, rfl⟩)
theorem ct_J10_colorOf (g : Gv) (J : Jd g) {ns : List Nat} {key : Nat → Nat} {val : Nat → Nat} {l : Nat → Option Nat} {r : Nat → Option Nat} {p : Nat → Option Nat} {col : Nat → Bool} {x : Option Nat} {w0 : va_W} (hw0 : EntG g ns key val l r p col w0) (hx : om ns x) : Ct g yJ10_colorOf (ws_ yJ10_colorOf cJ10_colorOf 1 (some .boolean)) 0 0 0 [va_rf x] [w0] (fun (rv_ : Option Value) (rL_ : List va_W) => rv_ = some (.int (nI (if oc col x = true then 1 else 0))) ∧ rL_ = [w0]) noX := by
  refine Ct.of "java/util/TreeMap" [some (va_rf x)] rfl (by decide) rfl (by simp [lg_sl, cat_i, cat_r, cat_n, cat_l, cat_o]) (by simp [lprs, lv_args, cat_i, cat_r, cat_n, cat_l, cat_o]) ?_
  intro κ B E tb
  refine g_aload_n (q := 1) B dJ10_colorOf_0 rfl rfl (rv_o _) ?_
  refine g_ifnonnull_o (tgt := 8) (q := 4) B dJ10_colorOf_1 rfl (by decide) (fun x_a1 c1 => ?_) (fun c1 => ?_)
  · skip
    subst c1
    refine g_aload_n (q := 9) B dJ10_colorOf_8 rfl rfl (rv_r _) ?_
    refine g_getM (v := .int (nI (if col x_a1 = true then 1 else 0))) (q := 12) B (ci := 28) (k := 0) (j := 5) in_J37 rfl dJ10_colorOf_9 rfl rfl (EntG.mem hw0 hx) (Nat.le_of_ble_eq_true rfl) q2119 rfl rfl ?_
    exact g_zret B E dJ10_colorOf_12 (by first | decide | (cases col x_a1 <;> rfl)) (⟨rfl, rfl⟩)
  · skip
    subst c1
    refine g_iconst (v := nI 1) (q := 5) B dJ10_colorOf_4 rfl (by decide) ?_
    refine g_goto (tgt := 12) B dJ10_colorOf_5 (by decide) ?_
    exact g_zret B E dJ10_colorOf_12 (by first | decide | (cases col x_a1 <;> rfl)) (⟨rfl, rfl⟩)
theorem ct_J10_setColor (g : Gv) (J : Jd g) {ns : List Nat} {key : Nat → Nat} {val : Nat → Nat} {l : Nat → Option Nat} {r : Nat → Option Nat} {p : Nat → Option Nat} {col : Nat → Bool} {x : Option Nat} {c : Bool} {w0 : va_W} (hw0 : EntG g ns key val l r p col w0) (hx : om ns x) : Ct g yJ10_setColor (ws_ yJ10_setColor cJ10_setColor 2 none) 0 0 0 [va_rf x, .int (nI (if c = true then 1 else 0))] [w0] (fun (rv_ : Option Value) (rL_ : List va_W) => ∃ (u0 : va_W), rv_ = none ∧ rL_ = [u0] ∧ EntG g ns key val l r p (oset col x c) u0) noX := by
  refine Ct.of "java/util/TreeMap" [some (va_rf x), some (.int (nI (if c = true then 1 else 0)))] rfl (by decide) rfl (by simp [lg_sl, cat_i, cat_r, cat_n, cat_l, cat_o]) (by simp [lprs, lv_args, cat_i, cat_r, cat_n, cat_l, cat_o]) ?_
  intro κ B E tb
  refine g_aload_n (q := 1) B dJ10_setColor_0 rfl rfl (rv_o _) ?_
  refine g_ifnull_o (tgt := 9) (q := 4) B dJ10_setColor_1 rfl (by decide) (fun c1 => ?_) (fun x_a1 c1 => ?_)
  · skip
    subst c1
    exact g_vret B E dJ10_setColor_9 (⟨w0, rfl, rfl, hw0⟩)
  · skip
    subst c1
    refine g_aload_n (q := 5) B dJ10_setColor_4 rfl rfl (rv_r _) ?_
    refine g_iload_n (q := 6) B dJ10_setColor_5 rfl rfl ?_
    refine g_putE5 (q := 9) (k := 0) (x := c) B hw0 hx dJ10_setColor_6 rfl rfl q2119 (fun we_1_6 hwe_1_6 => ?_)
    refine (show Go g κ 9 [some (.ref x_a1), some (.int (nI (if c = true then 1 else 0)))] [] [we_1_6] 0 0 from ?_)
    exact g_vret B E dJ10_setColor_9 (⟨we_1_6, rfl, rfl, hwe_1_6⟩)
