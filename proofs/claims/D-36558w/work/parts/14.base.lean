set_option maxRecDepth 100000
section
variable {g : Gv} {κ : Kx} {own : String} {cc : ByteArray} {nL : Nat} {ret : Option FieldType} {lvl : Nat} {pc q : Nat} {lv : List (Option Value)} {st : List Value} {L : List va_W} {kc ks : Nat}
theorem nI_eq0 {n : Nat} (h : n < 2 ^ 31) : nI n = 0 ↔ n = 0 := nI_eq h (by decide)
theorem nI_ne00 {n : Nat} (h : n < 2 ^ 31) : ¬ nI n = 0 ↔ ¬ n = 0 := not_congr (nI_eq0 h)
theorem nI_gt0 {n : Nat} (h : n < 2 ^ 31) : 0 < nI n ↔ 0 < n := nI_ltI (a := 0) (by decide) h
theorem nI_le0 {n : Nat} (h : n < 2 ^ 31) : nI n ≤ 0 ↔ n = 0 := by
  rw [show (0 : Int32) = nI 0 from rfl, nI_leI h (by decide)]
  exact Nat.le_zero
theorem rv_fit {v : Value} {C : FieldType} (hC : (∃ n, C = .object n) ∨ ∃ t, C = .array t) (h : isRv v) : fits C v = true := by
  rcases hC with ⟨n, rfl⟩ | ⟨t, rfl⟩ <;> rcases h with rfl | ⟨a, rfl⟩ <;> rfl
theorem rv_nar {v : Value} {C : FieldType} (hC : (∃ n, C = .object n) ∨ ∃ t, C = .array t) (h : isRv v) : narrow C v = v := by
  rcases hC with ⟨n, rfl⟩ | ⟨t, rfl⟩ <;> rcases h with rfl | ⟨a, rfl⟩ <;> rfl
theorem na_int {n : Nat} : ∀ cA : ClassId, vp_cell cA (n, .inl (fun _ => 0)) = arrV cA n (fun _ => defaultValue .int) := fun _ => rfl
theorem na_byte {n : Nat} : ∀ cA : ClassId, vp_cell cA (n, .inl (fun _ => 0)) = arrV cA n (fun _ => defaultValue .byte) := fun _ => rfl
theorem na_boolean {n : Nat} : ∀ cA : ClassId, vp_cell cA (n, .inl (fun _ => 0)) = arrV cA n (fun _ => defaultValue .boolean) := fun _ => rfl
theorem na_long {n : Nat} : ∀ cA : ClassId, vp_cell cA (n, .inr (.inl (fun _ => 0))) = arrV cA n (fun _ => defaultValue .long) := fun _ => rfl
theorem na_double {n : Nat} : ∀ cA : ClassId, vp_cell cA (n, .inr (.inr (.inr (.inl (fun _ => 0))))) = arrV cA n (fun _ => defaultValue .double) := fun _ => rfl
/-- a thing of the class C may lie in an array of E -/
def As (g : Gv) (C E : String) : Prop := ∀ (A : Nat → Prop) (s : State) (H : Heap), Ev g A s H → ∀ comp c0 : ClassId, s.vm.findClass E = some comp → s.vm.findClass C = some c0 → s.vm.assignable c0 comp = true
theorem as_s {C : String} : As g C C := fun _ _ _ _ comp c0 h1 h2 => vb_asgS comp c0 h1 h2
theorem as_c {C E : String} (h : Cond.castable C E ∈ lw_tbl) : As g C E := fun _ _ _ hE comp c0 h1 h2 => vb_asgC (hE.2.1.1 _ h rfl) comp c0 h1 h2
theorem g_astO (B : Fx g κ own cc nL ret lvl) {C E : String} {k a n t x : Nat} {f : Nat → Option Nat} {i : Int32} {L2 : List va_W} (hr : Rec g κ L x C) (ha : As g C E) (d : decode cc pc = .ok (.aastore, 1)) (hq : pc + 1 = q) (hL : L[k]? = some [(a, .inl (g.2.1 t, n, .inr (.inr (.inr (.inr f)))))]) (ht : (gTY g)[t]? = some (g.2.1 t, .object E)) (hi : vp_in i n) (hL2 : L.set k [(a, .inl (g.2.1 t, n, .inr (.inr (.inr (.inr (va_up f i.toNatClampNeg (some x)))))))] = L2) (kk : Go g κ q lv st L2 kc ks) : Go g κ pc lv (.ref x :: .int i :: .ref a :: st) L kc ks := by
  obtain ⟨p, l, e, R, s, m, args, below, meth, c, A, mc, ms, Q⟩ := κ
  obtain ⟨⟨hx, hb, hml, hown, hts⟩, ⟨-, hlk⟩, ⟨hst, hE, hA⟩, hR1, hR2, hR3, hR4⟩ := B
  subst hq
  intro H locs cells slots ls h1 h2 h3 h4 h5
  obtain ⟨j, hj, hi2⟩ := fl_at hL
  obtain ⟨cell, c1, c2, c3⟩ := hr H locs h4 h5
  have hany : va_Any E s H x := by
    obtain ⟨k9, h9, -⟩ := Vm.findClass_spec c3
    exact ⟨cell, c1, c2, ⟨k9, h9⟩, fun comp hcomp => ha A s s.heap hE comp _ hcomp c3⟩
  exact va_astqM hx hb hE.1 h4.1 h4.2 h5 j t hj ht hany hi d (fun H1 locs1 w1 w2 w3 => kk H1 locs1 cells slots ls h1 h2 h3 ⟨by rw [← hL2, ← hi2]; exact w1, by rw [← hL2, ← hi2]; exact w2⟩ w3)
theorem g_instRS (B : Fx g κ own cc nL ret lvl) {C : String} {T : u_T} {N ci index a : Nat} (hc : gCL[ci]? = some (C, T, N)) (hr : Rec g κ L a C) (d : decode cc pc = .ok (.instanceof index, 3)) (hq : pc + 3 = q) (hl : Cond.classLink own index C ∈ lw_all) (kk : Go g κ q lv (.int 1 :: st) L kc ks) : Go g κ pc lv (.ref a :: st) L kc ks := by
  obtain ⟨p, l, e, R, s, m, args, below, meth, c, A, mc, ms, Q⟩ := κ
  obtain ⟨⟨hx, hb, hml, hown, hts⟩, ⟨-, hlk⟩, ⟨hst, hE, hA⟩, hR1, hR2, hR3, hR4⟩ := B
  subst hq
  intro H locs cells slots ls h1 h2 h3 h4 h5
  exact va_instS hx hb hown (hts _ hl) ((hE.1.1 ci _ hc).2) (hr H locs h4 h5) d (kk H locs cells slots ls h1 h2 h3 h4 h5)
/-- a constructor's contract -/
theorem Ct.ofI {y : MethodName} (own : String) {cc : ByteArray} {maxL : Nat} {ret : Option FieldType} {lvl mc ms : Nat} {args : List Value} {L : List va_W} {post : Option Value → List va_W → Prop} {xp : String → List va_W → Prop} (lv0 : List (Option Value)) (hown : y.cls = own) (hy : plainName y.cls = true) (hn : lv0.length = maxL) (hs : (lg_sl args).length ≤ maxL) (hl : lprs 0 lv0 = lv_args 0 args) (hini : y.name = "<init>")
    (body : ∀ κ : Kx, Fx g κ own cc maxL ret lvl → Nd g κ post xp → Tb κ [] → Ini κ → Go g κ 0 lv0 [] L mc ms) : Ct g y (ws_ y cc maxL ret) lvl mc ms args L post xp := by
  intro l sz hst
  refine vx_ofW (cc := cc) (maxL := maxL) (ret := ret) hy rfl ?_
  intro p e s m a below meth c s₁ B hml htab hv
  obtain ⟨rfl, hsz, hE, hW⟩ := hv
  subst hsz
  have hts := atoms_spec (ws := ws_ y cc maxL ret) B.pre
  have hgo := body (p, l, e, Rm lvl mc ms, s, m, args.toArray, below, meth, c, va_A L.flatten s.heap.size, mc, ms, vx_MQ below (Pn g (va_A L.flatten s.heap.size) post) (Px g (va_A L.flatten s.heap.size) xp) args.toArray s mc ms (va_A L.flatten s.heap.size))
    ⟨⟨B.exec, B.bytes, hml, by rw [← hown]; exact findClass_of_methodNamed B.named, fun w h => hts w (List.mem_cons_of_mem _ h)⟩, ⟨B.returns, B.notSynchronized⟩, ⟨hst, hE, fun q h => Or.inr h⟩, Nat.le_refl _, Nat.le_refl _, Nat.le_refl _, Nat.le_refl _⟩ rfl (List.eq_nil_iff_forall_not_mem.mpr htab) ((name_of_methodNamed B.named B.method).1.trans hini)
  rw [lg_entry_eq]
  have hl0 := lv_entry args (n := maxL) hs
  refine hgo s.heap [] 0 0 _ (lvs_of_prs ?_) (by omega) (by omega) (hW.any fun q hq _ => vaA_iff.mpr (Or.inl ⟨q.2, hq⟩)) va_S.rf
  rw [hn, hl]
  exact hl0
/-! what is known of the heap outside -/
def Has (g : Gv) (F : (Nat → Prop) → State → Heap → Prop) : Prop := ∀ (A : Nat → Prop) (U : State) (H : Heap), g.2.2.1 A U H → F A U H
theorem g_gets (B : Fx g κ own cc nL ret lvl) {C n d0 : String} {v : Value} {index : Nat} (hZ : Has g (va_Z C n d0 v)) (d : decode cc pc = .ok (.getstatic index, 3)) (hq : pc + 3 = q) (hl : Cond.fieldLink own index C n d0 ∈ lw_all) (kk : Go g κ q lv (v :: st) L kc ks) : Go g κ pc lv st L kc ks := by
  obtain ⟨p, l, e, R, s, m, args, below, meth, c, A, mc, ms, Q⟩ := κ
  obtain ⟨⟨hx, hb, hml, hown, hts⟩, ⟨-, hlk⟩, ⟨hst, hE, hA⟩, hR1, hR2, hR3, hR4⟩ := B
  subst hq
  intro H locs cells slots ls h1 h2 h3 h4 h5
  exact va_gets hx hb (hZ _ _ _ hE.2.2.1) h5 hown (hts _ hl) (fun _ h => h) d (kk H locs cells slots ls h1 h2 h3 h4 h5)
theorem g_getsN (B : Fx g κ own cc nL ret lvl) {C n d0 host : String} {v : Value} {index : Nat} (hZ : Has g (va_Z C n d0 v)) (d : decode cc pc = .ok (.getstatic index, 3)) (hq : pc + 3 = q) (hl : Cond.fieldLinkNest own index C n d0 host ∈ lw_tbl) (kk : Go g κ q lv (v :: st) L kc ks) : Go g κ pc lv st L kc ks := by
  obtain ⟨p, l, e, R, s, m, args, below, meth, c, A, mc, ms, Q⟩ := κ
  obtain ⟨⟨hx, hb, hml, hown, hts⟩, ⟨-, hlk⟩, ⟨hst, hE, hA⟩, hR1, hR2, hR3, hR4⟩ := B
  subst hq
  intro H locs cells slots ls h1 h2 h3 h4 h5
  exact va_getsN hx hb (hZ _ _ _ hE.2.2.1) h5 hown (va_Nw.use rfl (hE.2.1.1 _ hl rfl)) (fun _ h => h) d (kk H locs cells slots ls h1 h2 h3 h4 h5)
end
