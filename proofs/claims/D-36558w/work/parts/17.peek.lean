set_option maxRecDepth 100000
section
variable {g : Gv} {κ : Kx} {own : String} {cc : ByteArray} {nL : Nat} {ret : Option FieldType} {lvl : Nat} {pc q : Nat} {lv : List (Option Value)} {st : List Value} {L : List va_W} {kc ks : Nat}
theorem g_getM (B : Fx g κ own cc nL ret lvl) {C ref : String} {T : u_T} {N ci index k j : Nat} {a : Nat} {fs : List Value} {v : Value} (hin : ∀ w ∈ u_ws C T N, w ∈ lw_all) (hc : gCL[ci]? = some (C, T, N)) (d : decode cc pc = .ok (.getfield index, 3)) (hq : pc + 3 = q) {w : va_W} (hL : L[k]? = some w) (hm : (a, .inr (ci, fs)) ∈ w) (hj : j < N) (hl : Cond.fieldLink own index ref (T j).2.1 (T j).2.2.1 ∈ lw_all) (hs : (T j).1 = ref) (hv : fs[j]? = some v) (kk : Go g κ q lv (v :: st) L kc ks) : Go g κ pc lv (.ref a :: st) L kc ks := by
  obtain ⟨p, l, e, R, s, m, args, below, meth, c, A, mc, ms, Q⟩ := κ
  obtain ⟨⟨hx, hb, hml, hown, hts⟩, ⟨hr, hlk⟩, ⟨hst, hE, hA⟩, hR1, hR2, hR3, hR4⟩ := B
  subst hq
  intro H locs cells slots ls h1 h2 h3 h4 h5
  obtain ⟨i, hi⟩ := List.getElem?_of_mem (List.mem_flatten.mpr ⟨w, List.mem_of_getElem? hL, hm⟩)
  exact va_get hx hb hts hin hown hE.1 h4.1 i hi hc j hj (hts _ hl) (fun x h => by rw [← hs]; exact h) hv d (kk H locs cells slots ls h1 h2 h3 h4 h5)
theorem g_getSM (B : Fx g κ own cc nL ret lvl) {C ref : String} {T : u_T} {N ci index k j : Nat} {a : Nat} {fs : List Value} {v : Value} (hin : ∀ w ∈ u_ws C T N, w ∈ lw_all) (hc : gCL[ci]? = some (C, T, N)) (d : decode cc pc = .ok (.getfield index, 3)) (hq : pc + 3 = q) {w : va_W} (hL : L[k]? = some w) (hm : (a, .inr (ci, fs)) ∈ w) (hj : j < N) (hl : Cond.fieldLink own index ref (T j).2.1 (T j).2.2.1 ∈ lw_all) (hs : Cond.sameField ref (T j).1 (T j).2.1 (T j).2.2.1 ∈ lw_all) (hv : fs[j]? = some v) (kk : Go g κ q lv (v :: st) L kc ks) : Go g κ pc lv (.ref a :: st) L kc ks := by
  obtain ⟨p, l, e, R, s, m, args, below, meth, c, A, mc, ms, Q⟩ := κ
  obtain ⟨⟨hx, hb, hml, hown, hts⟩, ⟨hr, hlk⟩, ⟨hst, hE, hA⟩, hR1, hR2, hR3, hR4⟩ := B
  subst hq
  intro H locs cells slots ls h1 h2 h3 h4 h5
  obtain ⟨i, hi⟩ := List.getElem?_of_mem (List.mem_flatten.mpr ⟨w, List.mem_of_getElem? hL, hm⟩)
  exact va_get hx hb hts hin hown hE.1 h4.1 i hi hc j hj (hts _ hl) (fun x h => u_same (hts _ hs) x h) hv d (kk H locs cells slots ls h1 h2 h3 h4 h5)
theorem g_getNM (B : Fx g κ own cc nL ret lvl) {C ref : String} {T : u_T} {N ci index k j : Nat} {a : Nat} {fs : List Value} {host : String} {v : Value} (hin : ∀ w ∈ u_ws C T N, w ∈ lw_all) (hc : gCL[ci]? = some (C, T, N)) (d : decode cc pc = .ok (.getfield index, 3)) (hq : pc + 3 = q) {w : va_W} (hL : L[k]? = some w) (hm : (a, .inr (ci, fs)) ∈ w) (hj : j < N) (hl : Cond.fieldLinkNest own index ref (T j).2.1 (T j).2.2.1 host ∈ lw_tbl) (hs : (T j).1 = ref) (hv : fs[j]? = some v) (kk : Go g κ q lv (v :: st) L kc ks) : Go g κ pc lv (.ref a :: st) L kc ks := by
  obtain ⟨p, l, e, R, s, m, args, below, meth, c, A, mc, ms, Q⟩ := κ
  obtain ⟨⟨hx, hb, hml, hown, hts⟩, ⟨hr, hlk⟩, ⟨hst, hE, hA⟩, hR1, hR2, hR3, hR4⟩ := B
  subst hq
  intro H locs cells slots ls h1 h2 h3 h4 h5
  obtain ⟨i, hi⟩ := List.getElem?_of_mem (List.mem_flatten.mpr ⟨w, List.mem_of_getElem? hL, hm⟩)
  exact va_getN hx hb hts hin hown hE.1 h4.1 i hi hc j hj (va_Nw.use rfl (hE.2.1.1 _ hl rfl)) (fun x h => by rw [← hs]; exact h) hv d (kk H locs cells slots ls h1 h2 h3 h4 h5)
theorem g_ialdM (B : Fx g κ own cc nL ret lvl) {k a n : Nat} {f : Nat → Int32} {i : Int32} {v : Int32} (d : decode cc pc = .ok (.iaload, 1)) (hq : pc + 1 = q) {w : va_W} (hL : L[k]? = some w) (hm : (a, .inl (g.2.1 0, n, .inl f)) ∈ w) (hi : vp_in i n) (hv : f i.toNatClampNeg = v) (kk : Go g κ q lv (.int v :: st) L kc ks) : Go g κ pc lv (.int i :: .ref a :: st) L kc ks := by
  obtain ⟨p, l, e, R, s, m, args, below, meth, c, A, mc, ms, Q⟩ := κ
  obtain ⟨⟨hx, hb, hml, hown, hts⟩, ⟨hr, hlk⟩, ⟨hst, hE, hA⟩, hR1, hR2, hR3, hR4⟩ := B
  subst hq; subst hv
  intro H locs cells slots ls h1 h2 h3 h4 h5
  obtain ⟨j, hj⟩ := List.getElem?_of_mem (List.mem_flatten.mpr ⟨w, List.mem_of_getElem? hL, hm⟩)
  exact va_iald hx hb hE.1 h4.1 j 0 hj rfl hi d (kk H locs cells slots ls h1 h2 h3 h4 h5)
theorem g_baldM (B : Fx g κ own cc nL ret lvl) {k a n : Nat} {f : Nat → Int32} {i : Int32} {v : Int32} (d : decode cc pc = .ok (.baload, 1)) (hq : pc + 1 = q) {w : va_W} (hL : L[k]? = some w) (hm : (a, .inl (g.2.1 2, n, .inl f)) ∈ w) (hi : vp_in i n) (hv : f i.toNatClampNeg = v) (kk : Go g κ q lv (.int v :: st) L kc ks) : Go g κ pc lv (.int i :: .ref a :: st) L kc ks := by
  obtain ⟨p, l, e, R, s, m, args, below, meth, c, A, mc, ms, Q⟩ := κ
  obtain ⟨⟨hx, hb, hml, hown, hts⟩, ⟨hr, hlk⟩, ⟨hst, hE, hA⟩, hR1, hR2, hR3, hR4⟩ := B
  subst hq; subst hv
  intro H locs cells slots ls h1 h2 h3 h4 h5
  obtain ⟨j, hj⟩ := List.getElem?_of_mem (List.mem_flatten.mpr ⟨w, List.mem_of_getElem? hL, hm⟩)
  exact va_bald hx hb hE.1 h4.1 j 2 hj rfl hi d (kk H locs cells slots ls h1 h2 h3 h4 h5)
theorem g_zaldM (B : Fx g κ own cc nL ret lvl) {k a n : Nat} {f : Nat → Int32} {i : Int32} {v : Int32} (d : decode cc pc = .ok (.baload, 1)) (hq : pc + 1 = q) {w : va_W} (hL : L[k]? = some w) (hm : (a, .inl (g.2.1 4, n, .inl f)) ∈ w) (hi : vp_in i n) (hv : f i.toNatClampNeg = v) (kk : Go g κ q lv (.int v :: st) L kc ks) : Go g κ pc lv (.int i :: .ref a :: st) L kc ks := by
  obtain ⟨p, l, e, R, s, m, args, below, meth, c, A, mc, ms, Q⟩ := κ
  obtain ⟨⟨hx, hb, hml, hown, hts⟩, ⟨hr, hlk⟩, ⟨hst, hE, hA⟩, hR1, hR2, hR3, hR4⟩ := B
  subst hq; subst hv
  intro H locs cells slots ls h1 h2 h3 h4 h5
  obtain ⟨j, hj⟩ := List.getElem?_of_mem (List.mem_flatten.mpr ⟨w, List.mem_of_getElem? hL, hm⟩)
  exact va_zald hx hb hE.1 h4.1 j 4 hj rfl hi d (kk H locs cells slots ls h1 h2 h3 h4 h5)
theorem g_laldM (B : Fx g κ own cc nL ret lvl) {k a n : Nat} {f : Nat → Int64} {i : Int32} {v : Int64} (d : decode cc pc = .ok (.laload, 1)) (hq : pc + 1 = q) {w : va_W} (hL : L[k]? = some w) (hm : (a, .inl (g.2.1 3, n, .inr (.inl f))) ∈ w) (hi : vp_in i n) (hv : f i.toNatClampNeg = v) (kk : Go g κ q lv (.long v :: st) L kc ks) : Go g κ pc lv (.int i :: .ref a :: st) L kc ks := by
  obtain ⟨p, l, e, R, s, m, args, below, meth, c, A, mc, ms, Q⟩ := κ
  obtain ⟨⟨hx, hb, hml, hown, hts⟩, ⟨hr, hlk⟩, ⟨hst, hE, hA⟩, hR1, hR2, hR3, hR4⟩ := B
  subst hq; subst hv
  intro H locs cells slots ls h1 h2 h3 h4 h5
  obtain ⟨j, hj⟩ := List.getElem?_of_mem (List.mem_flatten.mpr ⟨w, List.mem_of_getElem? hL, hm⟩)
  exact va_lald hx hb hE.1 h4.1 j 3 hj rfl hi d (kk H locs cells slots ls h1 h2 h3 h4 h5)
theorem g_daldM (B : Fx g κ own cc nL ret lvl) {k a n : Nat} {f : Nat → UInt64} {i : Int32} {v : UInt64} (d : decode cc pc = .ok (.daload, 1)) (hq : pc + 1 = q) {w : va_W} (hL : L[k]? = some w) (hm : (a, .inl (g.2.1 7, n, .inr (.inr (.inr (.inl f))))) ∈ w) (hi : vp_in i n) (hv : f i.toNatClampNeg = v) (kk : Go g κ q lv (.double v :: st) L kc ks) : Go g κ pc lv (.int i :: .ref a :: st) L kc ks := by
  obtain ⟨p, l, e, R, s, m, args, below, meth, c, A, mc, ms, Q⟩ := κ
  obtain ⟨⟨hx, hb, hml, hown, hts⟩, ⟨hr, hlk⟩, ⟨hst, hE, hA⟩, hR1, hR2, hR3, hR4⟩ := B
  subst hq; subst hv
  intro H locs cells slots ls h1 h2 h3 h4 h5
  obtain ⟨j, hj⟩ := List.getElem?_of_mem (List.mem_flatten.mpr ⟨w, List.mem_of_getElem? hL, hm⟩)
  exact va_dald hx hb hE.1 h4.1 j 7 hj rfl hi d (kk H locs cells slots ls h1 h2 h3 h4 h5)
theorem g_alenM (B : Fx g κ own cc nL ret lvl) {k a t : Nat} {x : vp_A} {v : Int32} {ty : FieldType} (d : decode cc pc = .ok (.arraylength, 1)) (hq : pc + 1 = q) {w : va_W} (hL : L[k]? = some w) (hm : (a, .inl (g.2.1 t, x)) ∈ w) (ht : (gTY g)[t]? = some (g.2.1 t, ty)) (hv : Int32.ofNat x.1 = v) (kk : Go g κ q lv (.int v :: st) L kc ks) : Go g κ pc lv (.ref a :: st) L kc ks := by
  obtain ⟨p, l, e, R, s, m, args, below, meth, c, A, mc, ms, Q⟩ := κ
  obtain ⟨⟨hx, hb, hml, hown, hts⟩, ⟨hr, hlk⟩, ⟨hst, hE, hA⟩, hR1, hR2, hR3, hR4⟩ := B
  subst hq
  intro H locs cells slots ls h1 h2 h3 h4 h5
  obtain ⟨j, hj⟩ := List.getElem?_of_mem (List.mem_flatten.mpr ⟨w, List.mem_of_getElem? hL, hm⟩)
  exact va_alen hx hb hE.1 h4.1 j t hj ht hv d (kk H locs cells slots ls h1 h2 h3 h4 h5)
theorem g_aldM (B : Fx g κ own cc nL ret lvl) {k a n t : Nat} {C : String} {f : Nat → Option Nat} {i : Int32} {r : Option Nat} (d : decode cc pc = .ok (.aaload, 1)) (hq : pc + 1 = q) {w : va_W} (hL : L[k]? = some w) (hm : (a, .inl (g.2.1 t, n, .inr (.inr (.inr (.inr f))))) ∈ w) (ht : (gTY g)[t]? = some (g.2.1 t, .object C)) (hi : vp_in i n) (hv : f i.toNatClampNeg = r) (kk : Go g κ q lv (va_rf r :: st) L kc ks) : Go g κ pc lv (.int i :: .ref a :: st) L kc ks := by
  obtain ⟨p, l, e, R, s, m, args, below, meth, c, A, mc, ms, Q⟩ := κ
  obtain ⟨⟨hx, hb, hml, hown, hts⟩, ⟨hr, hlk⟩, ⟨hst, hE, hA⟩, hR1, hR2, hR3, hR4⟩ := B
  subst hq; subst hv
  intro H locs cells slots ls h1 h2 h3 h4 h5
  obtain ⟨j, hj⟩ := List.getElem?_of_mem (List.mem_flatten.mpr ⟨w, List.mem_of_getElem? hL, hm⟩)
  exact va_aldq hx hb hE.1 h4.1 j t hj ht hi d (kk H locs cells slots ls h1 h2 h3 h4 h5)
theorem g_putS (B : Fx g κ own cc nL ret lvl) {C ref : String} {T : u_T} {N ci index k j : Nat} {a : Nat} {fs : List Value} {v : Value} {L2 : List va_W} (hin : ∀ w ∈ u_ws C T N, w ∈ lw_all) (ty0 : Nat → FieldType) (hty : ∀ k, k < N → parseFieldDescriptor (T k).2.2.1 = some (ty0 k)) (hnm : ∀ a, a < N → ∀ b, b < N → a ≠ b → (T a).2.1 ≠ (T b).2.1) (hc : gCL[ci]? = some (C, T, N)) (d : decode cc pc = .ok (.putfield index, 3)) (hq : pc + 3 = q) (hL : L[k]? = some [(a, .inr (ci, fs))]) (hj : j < N) (hl : Cond.fieldLink own index ref (T j).2.1 (T j).2.2.1 ∈ lw_all) (hs : Cond.sameField ref (T j).1 (T j).2.1 (T j).2.2.1 ∈ lw_all) (hfin : (T j).2.2.2 = false) (hnr : narrow (ty0 j) v = v) (hfit : fits (ty0 j) v = true) (hlen : j < fs.length) (hL2 : L.set k [(a, .inr (ci, fs.set j v))] = L2) (kk : Go g κ q lv st L2 kc ks) : Go g κ pc lv (v :: .ref a :: st) L kc ks := by
  obtain ⟨p, l, e, R, s, m, args, below, meth, c, A, mc, ms, Q⟩ := κ
  obtain ⟨⟨hx, hb, hml, hown, hts⟩, ⟨hr, hlk⟩, ⟨hst, hE, hA⟩, hR1, hR2, hR3, hR4⟩ := B
  subst hq
  intro H locs cells slots ls h1 h2 h3 h4 h5
  obtain ⟨i, hi, hi2⟩ := fl_at hL
  exact va_put hx hb hts hin ty0 hty hnm hown hE.1 h4.1 h4.2 h5 i hi hc j hj (hts _ hl) (fun x h => u_same (hts _ hs) x h) hfin (hty j hj) hnr hfit hlen d (fun H1 locs1 w1 w2 w3 => kk H1 locs1 cells slots ls h1 h2 h3 ⟨by rw [← hL2, ← hi2]; exact w1, by rw [← hL2, ← hi2]; exact w2⟩ w3)
end
