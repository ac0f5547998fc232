set_option maxRecDepth 100000
theorem bo_eq {P : Prop} {h : Decidable P} : nI (@ite Nat P h 1 0) = 0 ↔ ¬ P := by
  by_cases hp : P
  · rw [if_pos hp]; exact ⟨fun h => absurd h (by decide), fun h => absurd hp h⟩
  · rw [if_neg hp]; exact ⟨fun _ => hp, fun _ => rfl⟩
theorem bo_ne {P : Prop} {h : Decidable P} : ¬ nI (@ite Nat P h 1 0) = 0 ↔ P := by
  rw [bo_eq]; exact Classical.not_not
theorem bo1 {P : Prop} {h : Decidable P} (hp : P) : some (Value.int (nI 1)) = some (Value.int (nI (@ite Nat P h 1 0))) := by rw [if_pos hp]
theorem bo0 {P : Prop} {h : Decidable P} (hp : ¬ P) : some (Value.int (nI 0)) = some (Value.int (nI (@ite Nat P h 1 0))) := by rw [if_neg hp]
theorem cat_i (x : Int32) : (Value.int x).category = 1 := rfl
theorem cat_r (a : Nat) : (Value.ref a).category = 1 := rfl
theorem cat_n : Value.null.category = 1 := rfl
theorem cat_l (x : Int64) : (Value.long x).category = 2 := rfl
theorem cat_o (r : Option Nat) : (va_rf r).category = 1 := rv_c (rv_o r)
/-- as Ct.of, for a method of a class of which others are run by natives -/
theorem Ct.ofF {g : Gv} {y : MethodName} (own : String) {cc : ByteArray} {maxL : Nat} {ret : Option FieldType} {lvl mc ms : Nat} {args : List Value} {L : List va_W} {post : Option Value → List va_W → Prop} {xp : String → List va_W → Prop} (lv0 : List (Option Value)) (hown : y.cls = own) (hy : plainFor y = true) (hn : lv0.length = maxL) (hs : (lg_sl args).length ≤ maxL) (hl : lprs 0 lv0 = lv_args 0 args)
    (body : ∀ κ : Kx, Fx g κ own cc maxL ret lvl → Nd g κ post xp → Tb κ [] → Go g κ 0 lv0 [] L mc ms) : Ct g y (ws_ y cc maxL ret) lvl mc ms args L post xp := by
  intro l sz hst
  refine MetFree.of_bodySF (code := cc) (maxLocals := maxL) (ret := ret) hy ?_ ?_
  · intro args s m h hn
    obtain ⟨meth, c, h1, h2, h3, h4, h5, h6, -, -⟩ := Cond.code_spec hn (atoms_spec (ws := ws_ y cc maxL ret) h _ List.mem_cons_self)
    exact ⟨meth, c, h1, h2, h3, h4, h5, h6⟩
  intro p e s m a below meth c s₁ B hml hv _
  have hh0 : s₁.heap = s.heap := by rw [B.state]; rfl
  have htab : ∀ x ∈ c.exceptionTable.toList, False := by
    obtain ⟨meth9, c9, h1, h2, -, -, -, -, h7, -⟩ := Cond.code_spec B.named (atoms_spec (ws := ws_ y cc maxL ret) B.pre _ List.mem_cons_self)
    cases Option.some.inj (h1.symm.trans B.method)
    cases Option.some.inj (h2.symm.trans (Stand.of_body B).code)
    intro x hx
    rw [Array.isEmpty_iff.mp h7] at hx
    cases hx
  obtain ⟨rfl, hsz, hE, hW⟩ := hv
  subst hsz
  have hts := atoms_spec (ws := ws_ y cc maxL ret) B.pre
  have hgo := body (p, l, e, Rm lvl mc ms, s, m, args.toArray, below, meth, c, va_A L.flatten s.heap.size, mc, ms, vx_MQ below (Pn g (va_A L.flatten s.heap.size) post) (Px g (va_A L.flatten s.heap.size) xp) args.toArray s mc ms (va_A L.flatten s.heap.size))
    ⟨⟨B.exec, B.bytes, hml, by rw [← hown]; exact findClass_of_methodNamed B.named, fun w h => hts w (List.mem_cons_of_mem _ h)⟩, ⟨B.returns, B.notSynchronized⟩, ⟨hst, hE, fun q h => Or.inr h⟩, Nat.le_refl _, Nat.le_refl _, Nat.le_refl _, Nat.le_refl _⟩ rfl (List.eq_nil_iff_forall_not_mem.mpr htab)
  have hl0 := lv_entry args (n := maxL) hs
  have K := hgo s.heap [] 0 0 _ (lvs_of_prs (by rw [hn, hl]; exact hl0)) (by omega) (by omega) (hW.any fun q hq _ => vaA_iff.mpr (Or.inl ⟨q.2, hq⟩)) va_S.rf
  obtain ⟨t, a1, o, b1, b2, b3⟩ := K s₁ hh0 (Stand.of_body B)
  exact ⟨t, o, by rw [lg_entry_eq]; exact a1, b1, b2, b3⟩
/-- a method with handlers -/
theorem Ct.ofW {g : Gv} {y : MethodName} (own : String) {cc : ByteArray} {maxL : Nat} {ret : Option FieldType} {hh : List (Nat × Nat × Nat × Nat)} {lvl mc ms : Nat} {args : List Value} {L : List va_W} {post : Option Value → List va_W → Prop} {xp : String → List va_W → Prop} (lv0 : List (Option Value)) (hown : y.cls = own) (hy : plainName y.cls = true) (hn : lv0.length = maxL) (hs : (lg_sl args).length ≤ maxL) (hl : lprs 0 lv0 = lv_args 0 args)
    (body : ∀ κ : Kx, Fx g κ own cc maxL ret lvl → Nd g κ post xp → Tb κ (tableOf hh) → Go g κ 0 lv0 [] L mc ms) : Ct g y (wsW_ y cc maxL ret hh) lvl mc ms args L post xp := by
  intro l sz hst
  refine vx_ofWH (cc := cc) (maxL := maxL) (ret := ret) (hh := hh) hy rfl ?_
  intro p e s m a below meth c s₁ B hml hv
  obtain ⟨rfl, hsz, hE, hW⟩ := hv
  subst hsz
  have hts := atoms_spec (ws := wsW_ y cc maxL ret hh) B.pre
  have htab : c.exceptionTable.toList = tableOf hh := vx_table (x := y) B (hts _ List.mem_cons_self)
  have hgo := body (p, l, e, Rm lvl mc ms, s, m, args.toArray, below, meth, c, va_A L.flatten s.heap.size, mc, ms, vx_MQ below (Pn g (va_A L.flatten s.heap.size) post) (Px g (va_A L.flatten s.heap.size) xp) args.toArray s mc ms (va_A L.flatten s.heap.size))
    ⟨⟨B.exec, B.bytes, hml, by rw [← hown]; exact findClass_of_methodNamed B.named, fun w h => hts w (List.mem_cons_of_mem _ h)⟩, ⟨B.returns, B.notSynchronized⟩, ⟨hst, hE, fun q h => Or.inr h⟩, Nat.le_refl _, Nat.le_refl _, Nat.le_refl _, Nat.le_refl _⟩ rfl htab
  rw [lg_entry_eq]
  have hl0 := lv_entry args (n := maxL) hs
  refine hgo s.heap [] 0 0 _ (lvs_of_prs ?_) (by omega) (by omega) (hW.any fun q hq _ => vaA_iff.mpr (Or.inl ⟨q.2, hq⟩)) va_S.rf
  rw [hn, hl]
  exact hl0
section
variable {g : Gv} {κ : Kx} {own : String} {cc : ByteArray} {nL : Nat} {ret : Option FieldType} {lvl : Nat} {pc q : Nat} {lv : List (Option Value)} {st : List Value} {L : List va_W} {kc ks : Nat}
/-- caught by the row x of the table -/
theorem g_catch (B : Fx g κ own cc nL ret lvl) {tab : List ExceptionTableEntry} (tb : Tb κ tab) {E nm : String} (pre : List ExceptionTableEntry) (x : ExceptionTableEntry) (suf : List ExceptionTableEntry) (hsplit : tab = pre ++ x :: suf) (hpass : ∀ z ∈ pre, covers z pc = false ∨ (z.catchType ≠ 0 ∧ ∃ nm : String, Cond.classLink own z.catchType nm ∈ lw_all ∧ Cond.not (.castable E nm) ∈ gNc)) (hx : covers x pc = true) (h0 : x.catchType ≠ 0) (hl : Cond.classLink own x.catchType nm ∈ lw_all) (hca : Cond.castable E nm ∈ lw_tbl) (kk : ∀ z : Nat, Go g κ x.handlerPc lv [.ref z] L kc ks) : Gx g κ E pc lv st L kc ks := by
  obtain ⟨p, l, e, R, s, m, args, below, meth, c, A, mc, ms, Q⟩ := κ
  obtain ⟨⟨hx9, hb, hml, hown, hts⟩, ⟨-, hlk⟩, ⟨hst, hE, hA⟩, hR1, hR2, hR3, hR4⟩ := B
  have tb : c.exceptionTable.toList = tab := tb
  intro H locs cells slots ls q ce h1 h2 h3 h4 h5 h6 h7 h8
  exact vx_catch hown pre x suf (tb.trans hsplit) (fun z hz => by
    rcases hpass z hz with h | ⟨hz0, nm, hl1, hn1⟩
    · exact Or.inl h
    · exact Or.inr ⟨hz0, nm, hts _ hl1, hE.2.1.2.2.2 _ _ hn1⟩) hx h0 (hts _ hl) (va_Nw.use rfl (hE.2.1.1 _ hca rfl)) h6 h7 h8 (kk q H locs cells slots ls h1 h2 h3 h4 h5)
end
