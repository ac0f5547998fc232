set_option maxRecDepth 100000
section
variable {g : Gv} {κ : Kx} {own : String} {cc : ByteArray} {nL : Nat} {ret : Option FieldType} {lvl : Nat} {pc q : Nat} {lv : List (Option Value)} {st : List Value} {L : List va_W} {kc ks : Nat}
/-! new -/
theorem g_new (B : Fx g κ own cc nL ret lvl) {C : String} {T : u_T} {N ci index kc2 ks2 : Nat} {fs : List Value} {ty : Nat → FieldType} (hin : ∀ w ∈ u_ws C T N, w ∈ lw_all) (hty : ∀ k, k < N → parseFieldDescriptor (T k).2.2.1 = some (ty k)) (hc : gCL[ci]? = some (C, T, N)) (d : decode cc pc = .ok (.new index, 3)) (hq : pc + 3 = q) (hcl : Cond.classLink own index C ∈ lw_all) (hinst : Cond.instantiable C N ∈ lw_all) (hini : Cond.initialized C ∈ lw_all) (hfs : ∀ j, j < N → defaultValue (ty j) = vp_V fs j) (hk1 : kc2 + 1 ≤ kc) (hk2 : ks2 + N ≤ ks)
    (kk : ∀ a : Nat, Go g κ q lv (.ref a :: st) (L ++ [[(a, .inr (ci, fs))]]) kc2 ks2) : Go g κ pc lv st L kc ks := by
  obtain ⟨p, l, e, R, s, m, args, below, meth, c, A, mc, ms, Q⟩ := κ
  obtain ⟨⟨hx, hb, hml, hown, hts⟩, ⟨hr, hlk⟩, ⟨hst, hE, hA⟩, hR1, hR2, hR3, hR4⟩ := B
  subst hq
  intro H locs cells slots ls h1 h2 h3 h4 h5
  refine va_new hx hb hts hin ty hty hown (hts _ hcl) (hts _ hinst) (hts _ hini) hE.1 h4.1 h4.2 h5 hA hc hfs (by omega) (by omega) d (fun a H1 w1 w2 w3 => ?_)
  exact kk a H1 locs (cells + 1) (slots + N) ls h1 (by omega) (by omega) ⟨by rw [fl_push]; exact w1, by rw [fl_push]; exact w2⟩ w3
theorem arr_same {g : Gv} {s : State} {t : Nat} {cA : ClassId} {ty : FieldType} {tys : List (ClassId × FieldType)} (hE : va_K g.1 gCL (gTY g) s) (ht : (gTY g)[t]? = some (g.2.1 t, ty)) (h : va_K g.1 gCL (tys ++ [(cA, ty)]) s) : cA = g.2.1 t := by
  have h1 := (hE.2 t _ ht).2
  have h2 := (h.2 tys.length (cA, ty) (by simp)).2
  cases ty with
  | object C =>
    obtain ⟨k1, c1, a1, a2, a3, a4⟩ := h1
    obtain ⟨k2, c2, b1, b2, b3, b4⟩ := h2
    exact Option.some.inj (b4.symm.trans a4)
  | _ => exact Option.some.inj (Eq.trans (Eq.symm h2) h1)
theorem g_newa (B : Fx g κ own cc nL ret lvl) {atype : ArrayType} {ty : FieldType} {t N kc2 ks2 : Nat} {n : Int32} {a0 : vp_A} (harr : Cond.arrayClass (newarray.typeOf atype) ∈ lw_all) (hty : newarray.typeOf atype = ty) (ht : (gTY g)[t]? = some (g.2.1 t, ty)) (d : decode cc pc = .ok (.newarray atype, 2)) (hq : pc + 2 = q) (ha : ∀ cA : ClassId, vp_cell cA a0 = arrV cA N (fun _ => defaultValue ty)) (hn : ¬ n < 0) (hN : n.toNatClampNeg = N) (hbytes : N * componentBytes ty ≤ 536870912) (hk1 : kc2 + 1 ≤ kc) (hk2 : ks2 + N ≤ ks)
    (kk : ∀ a : Nat, Go g κ q lv (.ref a :: st) (L ++ [[(a, .inl (g.2.1 t, a0))]]) kc2 ks2) : Go g κ pc lv (.int n :: st) L kc ks := by
  obtain ⟨p, l, e, R, s, m, args, below, meth, c, A, mc, ms, Q⟩ := κ
  obtain ⟨⟨hx, hb, hml, hown, hts⟩, ⟨hr, hlk⟩, ⟨hst, hE, hA⟩, hR1, hR2, hR3, hR4⟩ := B
  subst hq
  intro H locs cells slots ls h1 h2 h3 h4 h5
  refine va_newa hx hb (hts _ harr) hty hE.1 h4.1 h4.2 h5 hA ha hn hN hbytes (by omega) (by omega) d (fun a cA H1 w0 w1 w2 w3 => ?_)
  have hcA := arr_same hE.1 ht w0
  subst hcA
  exact kk a H1 locs (cells + 1) (slots + N) ls h1 (by omega) (by omega) ⟨by rw [fl_push]; exact w1, by rw [fl_push]; exact w2⟩ w3
theorem g_newq (B : Fx g κ own cc nL ret lvl) {C : String} {t N index kc2 ks2 : Nat} {n : Int32} (hcl : Cond.classLink own index C ∈ lw_all) (hov : Cond.arrayOver (.object C) ∈ lw_tbl) (ht : (gTY g)[t]? = some (g.2.1 t, .object C)) (d : decode cc pc = .ok (.anewarray index, 3)) (hq : pc + 3 = q) (hn : ¬ n < 0) (hN : n.toNatClampNeg = N) (hbytes : N * 4 ≤ 536870912) (hk1 : kc2 + 1 ≤ kc) (hk2 : ks2 + N ≤ ks)
    (kk : ∀ a : Nat, Go g κ q lv (.ref a :: st) (L ++ [[(a, .inl (g.2.1 t, N, .inr (.inr (.inr (.inr (fun _ => none))))))]]) kc2 ks2) : Go g κ pc lv (.int n :: st) L kc ks := by
  obtain ⟨p, l, e, R, s, m, args, below, meth, c, A, mc, ms, Q⟩ := κ
  obtain ⟨⟨hx, hb, hml, hown, hts⟩, ⟨hr, hlk⟩, ⟨hst, hE, hA⟩, hR1, hR2, hR3, hR4⟩ := B
  subst hq
  intro H locs cells slots ls h1 h2 h3 h4 h5
  refine va_newq hx hb hown (hts _ hcl) (hE.2.1.2.2.1 C hov) hE.1 h4.1 h4.2 h5 hA hn hN hbytes (by omega) (by omega) d (fun a cA H1 w0 w1 w2 w3 => ?_)
  have hcA := arr_same hE.1 ht w0
  subst hcA
  exact kk a H1 locs (cells + 1) (slots + N) ls h1 (by omega) (by omega) ⟨by rw [fl_push]; exact w1, by rw [fl_push]; exact w2⟩ w3
/-! what a thing is -/
/-- a thing of the class C lies at a -/
def Is (κ : Kx) (C : String) (a : Nat) (H : Heap) : Prop := match κ with
  | (p, l, e, R, s, m, args, below, meth, c, A, mc, ms, Q) => ∃ cell : Cell, H[a]? = some cell ∧ cell.vm.isStatics = false ∧ s.vm.findClass C = some cell.cls
theorem g_cast (B : Fx g κ own cc nL ret lvl) {C nm : String} {T : u_T} {N ci index k a : Nat} {fs : List Value} (hc : gCL[ci]? = some (C, T, N)) (d : decode cc pc = .ok (.checkcast index, 3)) (hq : pc + 3 = q) (hL : L[k]? = some [(a, .inr (ci, fs))]) (hl : Cond.classLink own index nm ∈ lw_all) (hca : Cond.castable C nm ∈ lw_tbl) (kk : Go g κ q lv (.ref a :: st) L kc ks) : Go g κ pc lv (.ref a :: st) L kc ks := by
  obtain ⟨p, l, e, R, s, m, args, below, meth, c, A, mc, ms, Q⟩ := κ
  obtain ⟨⟨hx, hb, hml, hown, hts⟩, ⟨hr, hlk⟩, ⟨hst, hE, hA⟩, hR1, hR2, hR3, hR4⟩ := B
  subst hq
  intro H locs cells slots ls h1 h2 h3 h4 h5
  obtain ⟨i, hi, -⟩ := fl_at hL
  exact va_castY hx hb hown (hts _ hl) (hE.2.1.1 _ hca rfl) (va_recv hE.1 h4.1 hc hi) d (kk H locs cells slots ls h1 h2 h3 h4 h5)
theorem g_castS (B : Fx g κ own cc nL ret lvl) {C : String} {T : u_T} {N ci index k a : Nat} {fs : List Value} (hc : gCL[ci]? = some (C, T, N)) (d : decode cc pc = .ok (.checkcast index, 3)) (hq : pc + 3 = q) (hL : L[k]? = some [(a, .inr (ci, fs))]) (hl : Cond.classLink own index C ∈ lw_all) (kk : Go g κ q lv (.ref a :: st) L kc ks) : Go g κ pc lv (.ref a :: st) L kc ks := by
  obtain ⟨p, l, e, R, s, m, args, below, meth, c, A, mc, ms, Q⟩ := κ
  obtain ⟨⟨hx, hb, hml, hown, hts⟩, ⟨hr, hlk⟩, ⟨hst, hE, hA⟩, hR1, hR2, hR3, hR4⟩ := B
  subst hq
  intro H locs cells slots ls h1 h2 h3 h4 h5
  obtain ⟨i, hi, -⟩ := fl_at hL
  exact va_castS hx hb hown (hts _ hl) ((hE.1.1 ci _ hc).2) (va_recv hE.1 h4.1 hc hi) d (kk H locs cells slots ls h1 h2 h3 h4 h5)
/-- the same, the thing somewhere in a chunk -/
theorem g_castM (B : Fx g κ own cc nL ret lvl) {C : String} {T : u_T} {N ci index k a : Nat} {fs : List Value} {w : va_W} (hc : gCL[ci]? = some (C, T, N)) (d : decode cc pc = .ok (.checkcast index, 3)) (hq : pc + 3 = q) (hL : L[k]? = some w) (hm : (a, .inr (ci, fs)) ∈ w) (hl : Cond.classLink own index C ∈ lw_all) (kk : Go g κ q lv (.ref a :: st) L kc ks) : Go g κ pc lv (.ref a :: st) L kc ks := by
  obtain ⟨p, l, e, R, s, m, args, below, meth, c, A, mc, ms, Q⟩ := κ
  obtain ⟨⟨hx, hb, hml, hown, hts⟩, ⟨hr, hlk⟩, ⟨hst, hE, hA⟩, hR1, hR2, hR3, hR4⟩ := B
  subst hq
  intro H locs cells slots ls h1 h2 h3 h4 h5
  obtain ⟨i, hi⟩ := List.getElem?_of_mem (List.mem_flatten.mpr ⟨w, List.mem_of_getElem? hL, hm⟩)
  exact va_castS hx hb hown (hts _ hl) ((hE.1.1 ci _ hc).2) (va_recv hE.1 h4.1 hc hi) d (kk H locs cells slots ls h1 h2 h3 h4 h5)
theorem g_castN (B : Fx g κ own cc nL ret lvl) {index : Nat} (d : decode cc pc = .ok (.checkcast index, 3)) (hq : pc + 3 = q) (kk : Go g κ q lv (.null :: st) L kc ks) : Go g κ pc lv (.null :: st) L kc ks := by
  obtain ⟨p, l, e, R, s, m, args, below, meth, c, A, mc, ms, Q⟩ := κ
  obtain ⟨⟨hx, hb, hml, hown, hts⟩, ⟨hr, hlk⟩, ⟨hst, hE, hA⟩, hR1, hR2, hR3, hR4⟩ := B
  subst hq
  intro H locs cells slots ls h1 h2 h3 h4 h5
  exact lv_castN hx hb d (kk H locs cells slots ls h1 h2 h3 h4 h5)
theorem g_castA (B : Fx g κ own cc nL ret lvl) {nm C : String} {index k a t : Nat} {x : vp_A} (d : decode cc pc = .ok (.checkcast index, 3)) (hq : pc + 3 = q) (hL : L[k]? = some [(a, .inl (g.2.1 t, x))]) (ht : (gTY g)[t]? = some (g.2.1 t, .object C)) (hnm : nm = "[" ++ (FieldType.object C).toString) (hl : Cond.classLink own index nm ∈ lw_all) (kk : Go g κ q lv (.ref a :: st) L kc ks) : Go g κ pc lv (.ref a :: st) L kc ks := by
  obtain ⟨p, l, e, R, s, m, args, below, meth, c, A, mc, ms, Q⟩ := κ
  obtain ⟨⟨hx, hb, hml, hown, hts⟩, ⟨hr, hlk⟩, ⟨hst, hE, hA⟩, hR1, hR2, hR3, hR4⟩ := B
  subst hq
  intro H locs cells slots ls h1 h2 h3 h4 h5
  obtain ⟨i, hi, -⟩ := fl_at hL
  obtain ⟨kA, comp, e1, e2, e3, e4⟩ := (hE.1.2 t _ ht).2
  exact va_castA hx hb hown (hts _ hl) h4.1 i hi (by rw [hnm]; exact e4) d (kk H locs cells slots ls h1 h2 h3 h4 h5)
theorem g_instY (B : Fx g κ own cc nL ret lvl) {C nm : String} {T : u_T} {N ci index k a : Nat} {fs : List Value} (hc : gCL[ci]? = some (C, T, N)) (d : decode cc pc = .ok (.instanceof index, 3)) (hq : pc + 3 = q) (hL : L[k]? = some [(a, .inr (ci, fs))]) (hl : Cond.classLink own index nm ∈ lw_all) (hca : Cond.castable C nm ∈ lw_tbl) (kk : Go g κ q lv (.int 1 :: st) L kc ks) : Go g κ pc lv (.ref a :: st) L kc ks := by
  obtain ⟨p, l, e, R, s, m, args, below, meth, c, A, mc, ms, Q⟩ := κ
  obtain ⟨⟨hx, hb, hml, hown, hts⟩, ⟨hr, hlk⟩, ⟨hst, hE, hA⟩, hR1, hR2, hR3, hR4⟩ := B
  subst hq
  intro H locs cells slots ls h1 h2 h3 h4 h5
  obtain ⟨i, hi, -⟩ := fl_at hL
  exact va_instY hx hb hown (hts _ hl) (hE.2.1.1 _ hca rfl) (va_recv hE.1 h4.1 hc hi) d (kk H locs cells slots ls h1 h2 h3 h4 h5)
theorem g_instS (B : Fx g κ own cc nL ret lvl) {C : String} {T : u_T} {N ci index k a : Nat} {fs : List Value} (hc : gCL[ci]? = some (C, T, N)) (d : decode cc pc = .ok (.instanceof index, 3)) (hq : pc + 3 = q) (hL : L[k]? = some [(a, .inr (ci, fs))]) (hl : Cond.classLink own index C ∈ lw_all) (kk : Go g κ q lv (.int 1 :: st) L kc ks) : Go g κ pc lv (.ref a :: st) L kc ks := by
  obtain ⟨p, l, e, R, s, m, args, below, meth, c, A, mc, ms, Q⟩ := κ
  obtain ⟨⟨hx, hb, hml, hown, hts⟩, ⟨hr, hlk⟩, ⟨hst, hE, hA⟩, hR1, hR2, hR3, hR4⟩ := B
  subst hq
  intro H locs cells slots ls h1 h2 h3 h4 h5
  obtain ⟨i, hi, -⟩ := fl_at hL
  exact va_instS hx hb hown (hts _ hl) ((hE.1.1 ci _ hc).2) (va_recv hE.1 h4.1 hc hi) d (kk H locs cells slots ls h1 h2 h3 h4 h5)
theorem g_instNo (B : Fx g κ own cc nL ret lvl) {C nm : String} {T : u_T} {N ci index k a : Nat} {fs : List Value} (hc : gCL[ci]? = some (C, T, N)) (d : decode cc pc = .ok (.instanceof index, 3)) (hq : pc + 3 = q) (hL : L[k]? = some [(a, .inr (ci, fs))]) (hl : Cond.classLink own index nm ∈ lw_all) (hca : Cond.not (.castable C nm) ∈ gNc) (kk : Go g κ q lv (.int 0 :: st) L kc ks) : Go g κ pc lv (.ref a :: st) L kc ks := by
  obtain ⟨p, l, e, R, s, m, args, below, meth, c, A, mc, ms, Q⟩ := κ
  obtain ⟨⟨hx, hb, hml, hown, hts⟩, ⟨hr, hlk⟩, ⟨hst, hE, hA⟩, hR1, hR2, hR3, hR4⟩ := B
  subst hq
  intro H locs cells slots ls h1 h2 h3 h4 h5
  obtain ⟨i, hi, -⟩ := fl_at hL
  exact va_instNo hx hb hown (hts _ hl) (hE.2.1.2.2.2 _ _ hca) (va_recv hE.1 h4.1 hc hi) d (kk H locs cells slots ls h1 h2 h3 h4 h5)
theorem g_instN (B : Fx g κ own cc nL ret lvl) {index : Nat} (d : decode cc pc = .ok (.instanceof index, 3)) (hq : pc + 3 = q) (kk : Go g κ q lv (.int 0 :: st) L kc ks) : Go g κ pc lv (.null :: st) L kc ks := by
  obtain ⟨p, l, e, R, s, m, args, below, meth, c, A, mc, ms, Q⟩ := κ
  obtain ⟨⟨hx, hb, hml, hown, hts⟩, ⟨hr, hlk⟩, ⟨hst, hE, hA⟩, hR1, hR2, hR3, hR4⟩ := B
  subst hq
  intro H locs cells slots ls h1 h2 h3 h4 h5
  exact lv_instN hx hb d (kk H locs cells slots ls h1 h2 h3 h4 h5)
theorem g_objInit (B : Fx g κ own cc nL ret lvl) {idx a : Nat} (hl : Cond.methodLink own idx Lib.objectInit ∈ lw_all) (h6 : Cond.instanceMethod Lib.objectInit ∈ lw_all) (h7 : Cond.code Lib.objectInit ⟨#[0xb1]⟩ 1 none ∈ lw_all) (d : decode cc pc = .ok (.invokespecial idx, 3)) (hq : pc + 3 = q) (hn : lv.length = nL) (hs : (st.map fun v => v.category).sum ≤ 8) (kk : Go g κ q lv st L kc ks) : Go g κ pc lv (.ref a :: st) L kc ks := by
  obtain ⟨p, l, e, R, s, m, args, below, meth, c, A, mc, ms, Q⟩ := κ
  obtain ⟨⟨hx, hb, hml, hown, hts⟩, ⟨hr, hlk⟩, ⟨hst, hE, hA⟩, hR1, hR2, hR3, hR4⟩ := B
  subst hq
  intro H locs cells slots ls h1 h2 h3 h4 h5
  have h8 : 2 * (F0 m pc ls (Value.ref a :: st)).monitorRoom + (st.map fun v => v.category).sum ≤ 8 := lv_room hs
  exact W.objInit hx hb hown (hts _ hl) (hts _ h6) (hts _ h7) rfl (by rw [hml, ← hn]; exact h1.1) rfl d (by omega) (by omega) (W.eq (g2 := F0 m (pc + 3) ls st) rfl (kk H locs cells slots ls h1 h2 h3 h4 h5))
end
