set_option maxRecDepth 100000
section
variable {g : Gv} {κ : Kx} {own : String} {cc : ByteArray} {nL : Nat} {ret : Option FieldType} {lvl : Nat} {pc q : Nat} {lv : List (Option Value)} {st : List Value} {L : List va_W} {kc ks : Nat}
def isRv (v : Value) : Prop := v = .null ∨ ∃ a, v = .ref a
theorem rv_r (a : Nat) : isRv (.ref a) := Or.inr ⟨a, rfl⟩
theorem rv_n : isRv .null := Or.inl rfl
theorem rv_o : ∀ r : Option Nat, isRv (va_rf r)
  | none => Or.inl rfl
  | some a => Or.inr ⟨a, rfl⟩
theorem g_iconst (B : Fx g κ own cc nL ret lvl) {n : Int} {v : Int32} (d : decode cc pc = .ok (.iconst n, 1)) (hq : pc + 1 = q) (hv : Int32.ofInt n = v) (kk : Go g κ q lv (.int v :: st) L kc ks) : Go g κ pc lv (st) L kc ks := by
  obtain ⟨p, l, e, R, s, m, args, below, meth, c, A, mc, ms, Q⟩ := κ
  obtain ⟨⟨hx, hb, hml, hown, hts⟩, ⟨hr, hlk⟩, ⟨hst, hE, hA⟩, hR1, hR2, hR3, hR4⟩ := B
  subst hq
  intro H locs cells slots ls h1 h2 h3 h4 h5
  exact lv_iconst hx hb d hv (kk H locs cells slots ls h1 h2 h3 h4 h5)
theorem g_bipush (B : Fx g κ own cc nL ret lvl) {n : Int} {v : Int32} (d : decode cc pc = .ok (.bipush n, 2)) (hq : pc + 2 = q) (hv : (Int8.ofInt n).toInt32 = v) (kk : Go g κ q lv (.int v :: st) L kc ks) : Go g κ pc lv (st) L kc ks := by
  obtain ⟨p, l, e, R, s, m, args, below, meth, c, A, mc, ms, Q⟩ := κ
  obtain ⟨⟨hx, hb, hml, hown, hts⟩, ⟨hr, hlk⟩, ⟨hst, hE, hA⟩, hR1, hR2, hR3, hR4⟩ := B
  subst hq
  intro H locs cells slots ls h1 h2 h3 h4 h5
  exact lv_bipush hx hb d hv (kk H locs cells slots ls h1 h2 h3 h4 h5)
theorem g_sipush (B : Fx g κ own cc nL ret lvl) {n : Int} {v : Int32} (d : decode cc pc = .ok (.sipush n, 3)) (hq : pc + 3 = q) (hv : (Int16.ofInt n).toInt32 = v) (kk : Go g κ q lv (.int v :: st) L kc ks) : Go g κ pc lv (st) L kc ks := by
  obtain ⟨p, l, e, R, s, m, args, below, meth, c, A, mc, ms, Q⟩ := κ
  obtain ⟨⟨hx, hb, hml, hown, hts⟩, ⟨hr, hlk⟩, ⟨hst, hE, hA⟩, hR1, hR2, hR3, hR4⟩ := B
  subst hq
  intro H locs cells slots ls h1 h2 h3 h4 h5
  exact lv_sipush hx hb d hv (kk H locs cells slots ls h1 h2 h3 h4 h5)
theorem g_lconst (B : Fx g κ own cc nL ret lvl) {n : Fin 2} {v : Int64} (d : decode cc pc = .ok (.lconst n, 1)) (hq : pc + 1 = q) (hv : Int64.ofNat (n : Nat) = v) (kk : Go g κ q lv (.long v :: st) L kc ks) : Go g κ pc lv (st) L kc ks := by
  obtain ⟨p, l, e, R, s, m, args, below, meth, c, A, mc, ms, Q⟩ := κ
  obtain ⟨⟨hx, hb, hml, hown, hts⟩, ⟨hr, hlk⟩, ⟨hst, hE, hA⟩, hR1, hR2, hR3, hR4⟩ := B
  subst hq
  intro H locs cells slots ls h1 h2 h3 h4 h5
  exact lv_lconst hx hb d hv (kk H locs cells slots ls h1 h2 h3 h4 h5)
theorem g_aconst_null (B : Fx g κ own cc nL ret lvl)  (d : decode cc pc = .ok (.aconst_null, 1)) (hq : pc + 1 = q)  (kk : Go g κ q lv (.null :: st) L kc ks) : Go g κ pc lv (st) L kc ks := by
  obtain ⟨p, l, e, R, s, m, args, below, meth, c, A, mc, ms, Q⟩ := κ
  obtain ⟨⟨hx, hb, hml, hown, hts⟩, ⟨hr, hlk⟩, ⟨hst, hE, hA⟩, hR1, hR2, hR3, hR4⟩ := B
  subst hq
  intro H locs cells slots ls h1 h2 h3 h4 h5
  exact lv_null hx hb d (kk H locs cells slots ls h1 h2 h3 h4 h5)
theorem g_fconst0 (B : Fx g κ own cc nL ret lvl)  (d : decode cc pc = .ok (.fconst 0, 1)) (hq : pc + 1 = q)  (kk : Go g κ q lv (.float FP.fconst0 :: st) L kc ks) : Go g κ pc lv (st) L kc ks := by
  obtain ⟨p, l, e, R, s, m, args, below, meth, c, A, mc, ms, Q⟩ := κ
  obtain ⟨⟨hx, hb, hml, hown, hts⟩, ⟨hr, hlk⟩, ⟨hst, hE, hA⟩, hR1, hR2, hR3, hR4⟩ := B
  subst hq
  intro H locs cells slots ls h1 h2 h3 h4 h5
  exact lv_fconst0 hx hb d (kk H locs cells slots ls h1 h2 h3 h4 h5)
theorem g_dconst0 (B : Fx g κ own cc nL ret lvl)  (d : decode cc pc = .ok (.dconst 0, 1)) (hq : pc + 1 = q)  (kk : Go g κ q lv (.double FP.dconst0 :: st) L kc ks) : Go g κ pc lv (st) L kc ks := by
  obtain ⟨p, l, e, R, s, m, args, below, meth, c, A, mc, ms, Q⟩ := κ
  obtain ⟨⟨hx, hb, hml, hown, hts⟩, ⟨hr, hlk⟩, ⟨hst, hE, hA⟩, hR1, hR2, hR3, hR4⟩ := B
  subst hq
  intro H locs cells slots ls h1 h2 h3 h4 h5
  exact lv_dconst0 hx hb d (kk H locs cells slots ls h1 h2 h3 h4 h5)
theorem g_ldc (B : Fx g κ own cc nL ret lvl) {index : Nat} {v : Int32} (d : decode cc pc = .ok (.ldc index, 2)) (hq : pc + 2 = q) (hk : Cond.constant own index v ∈ lw_all) (kk : Go g κ q lv (.int v :: st) L kc ks) : Go g κ pc lv (st) L kc ks := by
  obtain ⟨p, l, e, R, s, m, args, below, meth, c, A, mc, ms, Q⟩ := κ
  obtain ⟨⟨hx, hb, hml, hown, hts⟩, ⟨hr, hlk⟩, ⟨hst, hE, hA⟩, hR1, hR2, hR3, hR4⟩ := B
  subst hq
  intro H locs cells slots ls h1 h2 h3 h4 h5
  exact lv_ldc hx hb hown (hts _ hk) d (kk H locs cells slots ls h1 h2 h3 h4 h5)
theorem g_ldcw (B : Fx g κ own cc nL ret lvl) {index : Nat} {v : Int32} (d : decode cc pc = .ok (.ldc_w index, 3)) (hq : pc + 3 = q) (hk : Cond.constant own index v ∈ lw_all) (kk : Go g κ q lv (.int v :: st) L kc ks) : Go g κ pc lv (st) L kc ks := by
  obtain ⟨p, l, e, R, s, m, args, below, meth, c, A, mc, ms, Q⟩ := κ
  obtain ⟨⟨hx, hb, hml, hown, hts⟩, ⟨hr, hlk⟩, ⟨hst, hE, hA⟩, hR1, hR2, hR3, hR4⟩ := B
  subst hq
  intro H locs cells slots ls h1 h2 h3 h4 h5
  exact lv_ldcw hx hb hown (hts _ hk) d (kk H locs cells slots ls h1 h2 h3 h4 h5)
theorem g_ldc2 (B : Fx g κ own cc nL ret lvl) {index : Nat} {v : Int64} (d : decode cc pc = .ok (.ldc2_w index, 3)) (hq : pc + 3 = q) (hk : Cond.constantLong own index v ∈ lw_all) (kk : Go g κ q lv (.long v :: st) L kc ks) : Go g κ pc lv (st) L kc ks := by
  obtain ⟨p, l, e, R, s, m, args, below, meth, c, A, mc, ms, Q⟩ := κ
  obtain ⟨⟨hx, hb, hml, hown, hts⟩, ⟨hr, hlk⟩, ⟨hst, hE, hA⟩, hR1, hR2, hR3, hR4⟩ := B
  subst hq
  intro H locs cells slots ls h1 h2 h3 h4 h5
  exact lv_ldc2 hx hb hown (hts _ hk) d (kk H locs cells slots ls h1 h2 h3 h4 h5)
theorem g_ldcf (B : Fx g κ own cc nL ret lvl) {index : Nat} {v : UInt32} (d : decode cc pc = .ok (.ldc index, 2)) (hq : pc + 2 = q) (hk : Cond.constantFloat own index v ∈ lw_all) (kk : Go g κ q lv (.float v :: st) L kc ks) : Go g κ pc lv (st) L kc ks := by
  obtain ⟨p, l, e, R, s, m, args, below, meth, c, A, mc, ms, Q⟩ := κ
  obtain ⟨⟨hx, hb, hml, hown, hts⟩, ⟨hr, hlk⟩, ⟨hst, hE, hA⟩, hR1, hR2, hR3, hR4⟩ := B
  subst hq
  intro H locs cells slots ls h1 h2 h3 h4 h5
  exact lv_ldcf hx hb hown (hts _ hk) d (kk H locs cells slots ls h1 h2 h3 h4 h5)
theorem g_iload_n (B : Fx g κ own cc nL ret lvl) {k : Fin 4} {x : Int32} (d : decode cc pc = .ok (.iload_n k, 1)) (hq : pc + 1 = q) (hl : lv[(k : Nat)]? = some (some (.int x))) (kk : Go g κ q lv (.int x :: st) L kc ks) : Go g κ pc lv (st) L kc ks := by
  obtain ⟨p, l, e, R, s, m, args, below, meth, c, A, mc, ms, Q⟩ := κ
  obtain ⟨⟨hx, hb, hml, hown, hts⟩, ⟨hr, hlk⟩, ⟨hst, hE, hA⟩, hR1, hR2, hR3, hR4⟩ := B
  subst hq
  intro H locs cells slots ls h1 h2 h3 h4 h5
  exact lv_iload_n hx hb d rfl (h1.2.2 _ _ hl) (kk H locs cells slots ls h1 h2 h3 h4 h5)
theorem g_iload (B : Fx g κ own cc nL ret lvl) {i : Nat} {x : Int32} (d : decode cc pc = .ok (.iload i, 2)) (hq : pc + 2 = q) (hl : lv[i]? = some (some (.int x))) (kk : Go g κ q lv (.int x :: st) L kc ks) : Go g κ pc lv (st) L kc ks := by
  obtain ⟨p, l, e, R, s, m, args, below, meth, c, A, mc, ms, Q⟩ := κ
  obtain ⟨⟨hx, hb, hml, hown, hts⟩, ⟨hr, hlk⟩, ⟨hst, hE, hA⟩, hR1, hR2, hR3, hR4⟩ := B
  subst hq
  intro H locs cells slots ls h1 h2 h3 h4 h5
  exact lv_iload hx hb d (h1.2.2 _ _ hl) (kk H locs cells slots ls h1 h2 h3 h4 h5)
theorem g_lload_n (B : Fx g κ own cc nL ret lvl) {k : Fin 4} {x : Int64} (d : decode cc pc = .ok (.lload_n k, 1)) (hq : pc + 1 = q) (hl : lv[(k : Nat)]? = some (some (.long x))) (kk : Go g κ q lv (.long x :: st) L kc ks) : Go g κ pc lv (st) L kc ks := by
  obtain ⟨p, l, e, R, s, m, args, below, meth, c, A, mc, ms, Q⟩ := κ
  obtain ⟨⟨hx, hb, hml, hown, hts⟩, ⟨hr, hlk⟩, ⟨hst, hE, hA⟩, hR1, hR2, hR3, hR4⟩ := B
  subst hq
  intro H locs cells slots ls h1 h2 h3 h4 h5
  exact lv_lload_n hx hb d rfl (h1.2.2 _ _ hl) (kk H locs cells slots ls h1 h2 h3 h4 h5)
theorem g_lload (B : Fx g κ own cc nL ret lvl) {i : Nat} {x : Int64} (d : decode cc pc = .ok (.lload i, 2)) (hq : pc + 2 = q) (hl : lv[i]? = some (some (.long x))) (kk : Go g κ q lv (.long x :: st) L kc ks) : Go g κ pc lv (st) L kc ks := by
  obtain ⟨p, l, e, R, s, m, args, below, meth, c, A, mc, ms, Q⟩ := κ
  obtain ⟨⟨hx, hb, hml, hown, hts⟩, ⟨hr, hlk⟩, ⟨hst, hE, hA⟩, hR1, hR2, hR3, hR4⟩ := B
  subst hq
  intro H locs cells slots ls h1 h2 h3 h4 h5
  exact lv_lload hx hb d (h1.2.2 _ _ hl) (kk H locs cells slots ls h1 h2 h3 h4 h5)
theorem g_fload_n (B : Fx g κ own cc nL ret lvl) {k : Fin 4} {x : UInt32} (d : decode cc pc = .ok (.fload_n k, 1)) (hq : pc + 1 = q) (hl : lv[(k : Nat)]? = some (some (.float x))) (kk : Go g κ q lv (.float x :: st) L kc ks) : Go g κ pc lv (st) L kc ks := by
  obtain ⟨p, l, e, R, s, m, args, below, meth, c, A, mc, ms, Q⟩ := κ
  obtain ⟨⟨hx, hb, hml, hown, hts⟩, ⟨hr, hlk⟩, ⟨hst, hE, hA⟩, hR1, hR2, hR3, hR4⟩ := B
  subst hq
  intro H locs cells slots ls h1 h2 h3 h4 h5
  exact lv_fload_n hx hb d rfl (h1.2.2 _ _ hl) (kk H locs cells slots ls h1 h2 h3 h4 h5)
theorem g_fload (B : Fx g κ own cc nL ret lvl) {i : Nat} {x : UInt32} (d : decode cc pc = .ok (.fload i, 2)) (hq : pc + 2 = q) (hl : lv[i]? = some (some (.float x))) (kk : Go g κ q lv (.float x :: st) L kc ks) : Go g κ pc lv (st) L kc ks := by
  obtain ⟨p, l, e, R, s, m, args, below, meth, c, A, mc, ms, Q⟩ := κ
  obtain ⟨⟨hx, hb, hml, hown, hts⟩, ⟨hr, hlk⟩, ⟨hst, hE, hA⟩, hR1, hR2, hR3, hR4⟩ := B
  subst hq
  intro H locs cells slots ls h1 h2 h3 h4 h5
  exact lv_fload hx hb d (h1.2.2 _ _ hl) (kk H locs cells slots ls h1 h2 h3 h4 h5)
theorem g_dload_n (B : Fx g κ own cc nL ret lvl) {k : Fin 4} {x : UInt64} (d : decode cc pc = .ok (.dload_n k, 1)) (hq : pc + 1 = q) (hl : lv[(k : Nat)]? = some (some (.double x))) (kk : Go g κ q lv (.double x :: st) L kc ks) : Go g κ pc lv (st) L kc ks := by
  obtain ⟨p, l, e, R, s, m, args, below, meth, c, A, mc, ms, Q⟩ := κ
  obtain ⟨⟨hx, hb, hml, hown, hts⟩, ⟨hr, hlk⟩, ⟨hst, hE, hA⟩, hR1, hR2, hR3, hR4⟩ := B
  subst hq
  intro H locs cells slots ls h1 h2 h3 h4 h5
  exact lv_dload_n hx hb d rfl (h1.2.2 _ _ hl) (kk H locs cells slots ls h1 h2 h3 h4 h5)
theorem g_dload (B : Fx g κ own cc nL ret lvl) {i : Nat} {x : UInt64} (d : decode cc pc = .ok (.dload i, 2)) (hq : pc + 2 = q) (hl : lv[i]? = some (some (.double x))) (kk : Go g κ q lv (.double x :: st) L kc ks) : Go g κ pc lv (st) L kc ks := by
  obtain ⟨p, l, e, R, s, m, args, below, meth, c, A, mc, ms, Q⟩ := κ
  obtain ⟨⟨hx, hb, hml, hown, hts⟩, ⟨hr, hlk⟩, ⟨hst, hE, hA⟩, hR1, hR2, hR3, hR4⟩ := B
  subst hq
  intro H locs cells slots ls h1 h2 h3 h4 h5
  exact lv_dload hx hb d (h1.2.2 _ _ hl) (kk H locs cells slots ls h1 h2 h3 h4 h5)
theorem g_aload_n (B : Fx g κ own cc nL ret lvl) {k : Fin 4} {v : Value} (d : decode cc pc = .ok (.aload_n k, 1)) (hq : pc + 1 = q) (hl : lv[(k : Nat)]? = some (some v)) (hv : isRv v) (kk : Go g κ q lv (v :: st) L kc ks) : Go g κ pc lv st L kc ks := by
  obtain ⟨p, l, e, R, s, m, args, below, meth, c, A, mc, ms, Q⟩ := κ
  obtain ⟨⟨hx, hb, hml, hown, hts⟩, ⟨hr, hlk⟩, ⟨hst, hE, hA⟩, hR1, hR2, hR3, hR4⟩ := B
  subst hq
  intro H locs cells slots ls h1 h2 h3 h4 h5
  rcases hv with rfl | ⟨a, rfl⟩
  · exact lv_aload_nN hx hb d rfl (h1.2.2 _ _ hl) (kk H locs cells slots ls h1 h2 h3 h4 h5)
  · exact lv_aload_n hx hb d rfl (h1.2.2 _ _ hl) (kk H locs cells slots ls h1 h2 h3 h4 h5)
theorem g_aload (B : Fx g κ own cc nL ret lvl) {i : Nat} {v : Value} (d : decode cc pc = .ok (.aload i, 2)) (hq : pc + 2 = q) (hl : lv[i]? = some (some v)) (hv : isRv v) (kk : Go g κ q lv (v :: st) L kc ks) : Go g κ pc lv st L kc ks := by
  obtain ⟨p, l, e, R, s, m, args, below, meth, c, A, mc, ms, Q⟩ := κ
  obtain ⟨⟨hx, hb, hml, hown, hts⟩, ⟨hr, hlk⟩, ⟨hst, hE, hA⟩, hR1, hR2, hR3, hR4⟩ := B
  subst hq
  intro H locs cells slots ls h1 h2 h3 h4 h5
  rcases hv with rfl | ⟨a, rfl⟩
  · exact lv_aloadN hx hb d (h1.2.2 _ _ hl) (kk H locs cells slots ls h1 h2 h3 h4 h5)
  · exact lv_aload hx hb d (h1.2.2 _ _ hl) (kk H locs cells slots ls h1 h2 h3 h4 h5)
theorem g_istore_n (B : Fx g κ own cc nL ret lvl) {k : Fin 4} {x : Int32} {lv2 : List (Option Value)} (d : decode cc pc = .ok (.istore_n k, 1)) (hq : pc + 1 = q) (hi : (k : Nat) < lv.length) (hn : lst1 lv (k : Nat) (.int x) = lv2) (kk : Go g κ q lv2 st L kc ks) : Go g κ pc lv (.int x :: st) L kc ks := by
  obtain ⟨p, l, e, R, s, m, args, below, meth, c, A, mc, ms, Q⟩ := κ
  obtain ⟨⟨hx, hb, hml, hown, hts⟩, ⟨hr, hlk⟩, ⟨hst, hE, hA⟩, hR1, hR2, hR3, hR4⟩ := B
  subst hq
  intro H locs cells slots ls h1 h2 h3 h4 h5
  exact lv_istore_n hx hb d rfl h1.has hi rfl (fun ls2 h9 => kk H locs cells slots ls2 (by rw [← hn]; exact lvs_st1 hi h9) h2 h3 h4 h5)
theorem g_istore (B : Fx g κ own cc nL ret lvl) {i : Nat} {x : Int32} {lv2 : List (Option Value)} (d : decode cc pc = .ok (.istore i, 2)) (hq : pc + 2 = q) (hi : i < lv.length) (hn : lst1 lv i (.int x) = lv2) (kk : Go g κ q lv2 st L kc ks) : Go g κ pc lv (.int x :: st) L kc ks := by
  obtain ⟨p, l, e, R, s, m, args, below, meth, c, A, mc, ms, Q⟩ := κ
  obtain ⟨⟨hx, hb, hml, hown, hts⟩, ⟨hr, hlk⟩, ⟨hst, hE, hA⟩, hR1, hR2, hR3, hR4⟩ := B
  subst hq
  intro H locs cells slots ls h1 h2 h3 h4 h5
  exact lv_istore hx hb d h1.has hi rfl (fun ls2 h9 => kk H locs cells slots ls2 (by rw [← hn]; exact lvs_st1 hi h9) h2 h3 h4 h5)
theorem g_lstore_n (B : Fx g κ own cc nL ret lvl) {k : Fin 4} {x : Int64} {lv2 : List (Option Value)} (d : decode cc pc = .ok (.lstore_n k, 1)) (hq : pc + 1 = q) (hi : (k : Nat) + 1 < lv.length) (hn : lst2 lv (k : Nat) (.long x) = lv2) (kk : Go g κ q lv2 st L kc ks) : Go g κ pc lv (.long x :: st) L kc ks := by
  obtain ⟨p, l, e, R, s, m, args, below, meth, c, A, mc, ms, Q⟩ := κ
  obtain ⟨⟨hx, hb, hml, hown, hts⟩, ⟨hr, hlk⟩, ⟨hst, hE, hA⟩, hR1, hR2, hR3, hR4⟩ := B
  subst hq
  intro H locs cells slots ls h1 h2 h3 h4 h5
  exact lv_lstore_n hx hb d rfl h1.has hi rfl (fun ls2 h9 => kk H locs cells slots ls2 (by rw [← hn]; exact lvs_st2 hi h9) h2 h3 h4 h5)
theorem g_lstore (B : Fx g κ own cc nL ret lvl) {i : Nat} {x : Int64} {lv2 : List (Option Value)} (d : decode cc pc = .ok (.lstore i, 2)) (hq : pc + 2 = q) (hi : i + 1 < lv.length) (hn : lst2 lv i (.long x) = lv2) (kk : Go g κ q lv2 st L kc ks) : Go g κ pc lv (.long x :: st) L kc ks := by
  obtain ⟨p, l, e, R, s, m, args, below, meth, c, A, mc, ms, Q⟩ := κ
  obtain ⟨⟨hx, hb, hml, hown, hts⟩, ⟨hr, hlk⟩, ⟨hst, hE, hA⟩, hR1, hR2, hR3, hR4⟩ := B
  subst hq
  intro H locs cells slots ls h1 h2 h3 h4 h5
  exact lv_lstore hx hb d h1.has hi rfl (fun ls2 h9 => kk H locs cells slots ls2 (by rw [← hn]; exact lvs_st2 hi h9) h2 h3 h4 h5)
theorem g_fstore_n (B : Fx g κ own cc nL ret lvl) {k : Fin 4} {x : UInt32} {lv2 : List (Option Value)} (d : decode cc pc = .ok (.fstore_n k, 1)) (hq : pc + 1 = q) (hi : (k : Nat) < lv.length) (hn : lst1 lv (k : Nat) (.float x) = lv2) (kk : Go g κ q lv2 st L kc ks) : Go g κ pc lv (.float x :: st) L kc ks := by
  obtain ⟨p, l, e, R, s, m, args, below, meth, c, A, mc, ms, Q⟩ := κ
  obtain ⟨⟨hx, hb, hml, hown, hts⟩, ⟨hr, hlk⟩, ⟨hst, hE, hA⟩, hR1, hR2, hR3, hR4⟩ := B
  subst hq
  intro H locs cells slots ls h1 h2 h3 h4 h5
  exact lv_fstore_n hx hb d rfl h1.has hi rfl (fun ls2 h9 => kk H locs cells slots ls2 (by rw [← hn]; exact lvs_st1 hi h9) h2 h3 h4 h5)
theorem g_fstore (B : Fx g κ own cc nL ret lvl) {i : Nat} {x : UInt32} {lv2 : List (Option Value)} (d : decode cc pc = .ok (.fstore i, 2)) (hq : pc + 2 = q) (hi : i < lv.length) (hn : lst1 lv i (.float x) = lv2) (kk : Go g κ q lv2 st L kc ks) : Go g κ pc lv (.float x :: st) L kc ks := by
  obtain ⟨p, l, e, R, s, m, args, below, meth, c, A, mc, ms, Q⟩ := κ
  obtain ⟨⟨hx, hb, hml, hown, hts⟩, ⟨hr, hlk⟩, ⟨hst, hE, hA⟩, hR1, hR2, hR3, hR4⟩ := B
  subst hq
  intro H locs cells slots ls h1 h2 h3 h4 h5
  exact lv_fstore hx hb d h1.has hi rfl (fun ls2 h9 => kk H locs cells slots ls2 (by rw [← hn]; exact lvs_st1 hi h9) h2 h3 h4 h5)
theorem g_dstore_n (B : Fx g κ own cc nL ret lvl) {k : Fin 4} {x : UInt64} {lv2 : List (Option Value)} (d : decode cc pc = .ok (.dstore_n k, 1)) (hq : pc + 1 = q) (hi : (k : Nat) + 1 < lv.length) (hn : lst2 lv (k : Nat) (.double x) = lv2) (kk : Go g κ q lv2 st L kc ks) : Go g κ pc lv (.double x :: st) L kc ks := by
  obtain ⟨p, l, e, R, s, m, args, below, meth, c, A, mc, ms, Q⟩ := κ
  obtain ⟨⟨hx, hb, hml, hown, hts⟩, ⟨hr, hlk⟩, ⟨hst, hE, hA⟩, hR1, hR2, hR3, hR4⟩ := B
  subst hq
  intro H locs cells slots ls h1 h2 h3 h4 h5
  exact lv_dstore_n hx hb d rfl h1.has hi rfl (fun ls2 h9 => kk H locs cells slots ls2 (by rw [← hn]; exact lvs_st2 hi h9) h2 h3 h4 h5)
theorem g_dstore (B : Fx g κ own cc nL ret lvl) {i : Nat} {x : UInt64} {lv2 : List (Option Value)} (d : decode cc pc = .ok (.dstore i, 2)) (hq : pc + 2 = q) (hi : i + 1 < lv.length) (hn : lst2 lv i (.double x) = lv2) (kk : Go g κ q lv2 st L kc ks) : Go g κ pc lv (.double x :: st) L kc ks := by
  obtain ⟨p, l, e, R, s, m, args, below, meth, c, A, mc, ms, Q⟩ := κ
  obtain ⟨⟨hx, hb, hml, hown, hts⟩, ⟨hr, hlk⟩, ⟨hst, hE, hA⟩, hR1, hR2, hR3, hR4⟩ := B
  subst hq
  intro H locs cells slots ls h1 h2 h3 h4 h5
  exact lv_dstore hx hb d h1.has hi rfl (fun ls2 h9 => kk H locs cells slots ls2 (by rw [← hn]; exact lvs_st2 hi h9) h2 h3 h4 h5)
theorem g_astore_n (B : Fx g κ own cc nL ret lvl) {k : Fin 4} {v : Value} {lv2 : List (Option Value)} (d : decode cc pc = .ok (.astore_n k, 1)) (hq : pc + 1 = q) (hi : (k : Nat) < lv.length) (hv : isRv v) (hn : lst1 lv (k : Nat) v = lv2) (kk : Go g κ q lv2 st L kc ks) : Go g κ pc lv (v :: st) L kc ks := by
  obtain ⟨p, l, e, R, s, m, args, below, meth, c, A, mc, ms, Q⟩ := κ
  obtain ⟨⟨hx, hb, hml, hown, hts⟩, ⟨hr, hlk⟩, ⟨hst, hE, hA⟩, hR1, hR2, hR3, hR4⟩ := B
  subst hq
  intro H locs cells slots ls h1 h2 h3 h4 h5
  rcases hv with rfl | ⟨a, rfl⟩
  · exact lv_astore_nN hx hb d rfl h1.has hi rfl (fun ls2 h9 => kk H locs cells slots ls2 (by rw [← hn]; exact lvs_st1 hi h9) h2 h3 h4 h5)
  · exact lv_astore_n hx hb d rfl h1.has hi rfl (fun ls2 h9 => kk H locs cells slots ls2 (by rw [← hn]; exact lvs_st1 hi h9) h2 h3 h4 h5)
theorem g_astore (B : Fx g κ own cc nL ret lvl) {i : Nat} {v : Value} {lv2 : List (Option Value)} (d : decode cc pc = .ok (.astore i, 2)) (hq : pc + 2 = q) (hi : i < lv.length) (hv : isRv v) (hn : lst1 lv i v = lv2) (kk : Go g κ q lv2 st L kc ks) : Go g κ pc lv (v :: st) L kc ks := by
  obtain ⟨p, l, e, R, s, m, args, below, meth, c, A, mc, ms, Q⟩ := κ
  obtain ⟨⟨hx, hb, hml, hown, hts⟩, ⟨hr, hlk⟩, ⟨hst, hE, hA⟩, hR1, hR2, hR3, hR4⟩ := B
  subst hq
  intro H locs cells slots ls h1 h2 h3 h4 h5
  rcases hv with rfl | ⟨a, rfl⟩
  · exact lv_astoreN hx hb d h1.has hi rfl (fun ls2 h9 => kk H locs cells slots ls2 (by rw [← hn]; exact lvs_st1 hi h9) h2 h3 h4 h5)
  · exact lv_astore hx hb d h1.has hi rfl (fun ls2 h9 => kk H locs cells slots ls2 (by rw [← hn]; exact lvs_st1 hi h9) h2 h3 h4 h5)
theorem g_iinc (B : Fx g κ own cc nL ret lvl) {i : Nat} {n : Int} {x v : Int32} {lv2 : List (Option Value)} (d : decode cc pc = .ok (.iinc i n, 3)) (hq : pc + 3 = q) (hl : lv[i]? = some (some (.int x))) (hv : x + Int32.ofInt n = v) (hi : i < lv.length) (hn : lst1 lv i (.int v) = lv2) (kk : Go g κ q lv2 st L kc ks) : Go g κ pc lv st L kc ks := by
  obtain ⟨p, l, e, R, s, m, args, below, meth, c, A, mc, ms, Q⟩ := κ
  obtain ⟨⟨hx, hb, hml, hown, hts⟩, ⟨hr, hlk⟩, ⟨hst, hE, hA⟩, hR1, hR2, hR3, hR4⟩ := B
  subst hq
  intro H locs cells slots ls h1 h2 h3 h4 h5
  obtain ⟨j, hj⟩ := List.getElem?_of_mem ((lprs_mem lv 0 i (.int x)).mpr ⟨Nat.zero_le _, by simpa using hl⟩)
  exact lv_iinc hx hb d h1.has hj hv hi rfl (fun ls2 h9 => kk H locs cells slots ls2 (by rw [← hn]; exact lvs_st1 hi h9) h2 h3 h4 h5)
theorem g_iadd (B : Fx g κ own cc nL ret lvl) {x y v : Int32} (d : decode cc pc = .ok (.iadd, 1)) (hq : pc + 1 = q)  (hv : x + y = v) (kk : Go g κ q lv (.int v :: st) L kc ks) : Go g κ pc lv (.int y :: .int x :: st) L kc ks := by
  obtain ⟨p, l, e, R, s, m, args, below, meth, c, A, mc, ms, Q⟩ := κ
  obtain ⟨⟨hx, hb, hml, hown, hts⟩, ⟨hr, hlk⟩, ⟨hst, hE, hA⟩, hR1, hR2, hR3, hR4⟩ := B
  subst hq
  intro H locs cells slots ls h1 h2 h3 h4 h5
  subst hv; exact lv_iadd hx hb d (kk H locs cells slots ls h1 h2 h3 h4 h5)
theorem g_isub (B : Fx g κ own cc nL ret lvl) {x y v : Int32} (d : decode cc pc = .ok (.isub, 1)) (hq : pc + 1 = q)  (hv : x - y = v) (kk : Go g κ q lv (.int v :: st) L kc ks) : Go g κ pc lv (.int y :: .int x :: st) L kc ks := by
  obtain ⟨p, l, e, R, s, m, args, below, meth, c, A, mc, ms, Q⟩ := κ
  obtain ⟨⟨hx, hb, hml, hown, hts⟩, ⟨hr, hlk⟩, ⟨hst, hE, hA⟩, hR1, hR2, hR3, hR4⟩ := B
  subst hq
  intro H locs cells slots ls h1 h2 h3 h4 h5
  subst hv; exact lv_isub hx hb d (kk H locs cells slots ls h1 h2 h3 h4 h5)
theorem g_imul (B : Fx g κ own cc nL ret lvl) {x y v : Int32} (d : decode cc pc = .ok (.imul, 1)) (hq : pc + 1 = q)  (hv : x * y = v) (kk : Go g κ q lv (.int v :: st) L kc ks) : Go g κ pc lv (.int y :: .int x :: st) L kc ks := by
  obtain ⟨p, l, e, R, s, m, args, below, meth, c, A, mc, ms, Q⟩ := κ
  obtain ⟨⟨hx, hb, hml, hown, hts⟩, ⟨hr, hlk⟩, ⟨hst, hE, hA⟩, hR1, hR2, hR3, hR4⟩ := B
  subst hq
  intro H locs cells slots ls h1 h2 h3 h4 h5
  subst hv; exact lv_imul hx hb d (kk H locs cells slots ls h1 h2 h3 h4 h5)
theorem g_iand (B : Fx g κ own cc nL ret lvl) {x y v : Int32} (d : decode cc pc = .ok (.iand, 1)) (hq : pc + 1 = q)  (hv : x &&& y = v) (kk : Go g κ q lv (.int v :: st) L kc ks) : Go g κ pc lv (.int y :: .int x :: st) L kc ks := by
  obtain ⟨p, l, e, R, s, m, args, below, meth, c, A, mc, ms, Q⟩ := κ
  obtain ⟨⟨hx, hb, hml, hown, hts⟩, ⟨hr, hlk⟩, ⟨hst, hE, hA⟩, hR1, hR2, hR3, hR4⟩ := B
  subst hq
  intro H locs cells slots ls h1 h2 h3 h4 h5
  subst hv; exact lv_iand hx hb d (kk H locs cells slots ls h1 h2 h3 h4 h5)
theorem g_ior (B : Fx g κ own cc nL ret lvl) {x y v : Int32} (d : decode cc pc = .ok (.ior, 1)) (hq : pc + 1 = q)  (hv : x ||| y = v) (kk : Go g κ q lv (.int v :: st) L kc ks) : Go g κ pc lv (.int y :: .int x :: st) L kc ks := by
  obtain ⟨p, l, e, R, s, m, args, below, meth, c, A, mc, ms, Q⟩ := κ
  obtain ⟨⟨hx, hb, hml, hown, hts⟩, ⟨hr, hlk⟩, ⟨hst, hE, hA⟩, hR1, hR2, hR3, hR4⟩ := B
  subst hq
  intro H locs cells slots ls h1 h2 h3 h4 h5
  subst hv; exact lv_ior hx hb d (kk H locs cells slots ls h1 h2 h3 h4 h5)
theorem g_ixor (B : Fx g κ own cc nL ret lvl) {x y v : Int32} (d : decode cc pc = .ok (.ixor, 1)) (hq : pc + 1 = q)  (hv : x ^^^ y = v) (kk : Go g κ q lv (.int v :: st) L kc ks) : Go g κ pc lv (.int y :: .int x :: st) L kc ks := by
  obtain ⟨p, l, e, R, s, m, args, below, meth, c, A, mc, ms, Q⟩ := κ
  obtain ⟨⟨hx, hb, hml, hown, hts⟩, ⟨hr, hlk⟩, ⟨hst, hE, hA⟩, hR1, hR2, hR3, hR4⟩ := B
  subst hq
  intro H locs cells slots ls h1 h2 h3 h4 h5
  subst hv; exact lv_ixor hx hb d (kk H locs cells slots ls h1 h2 h3 h4 h5)
theorem g_ishl (B : Fx g κ own cc nL ret lvl) {x y v : Int32} (d : decode cc pc = .ok (.ishl, 1)) (hq : pc + 1 = q)  (hv : x <<< (y &&& 31) = v) (kk : Go g κ q lv (.int v :: st) L kc ks) : Go g κ pc lv (.int y :: .int x :: st) L kc ks := by
  obtain ⟨p, l, e, R, s, m, args, below, meth, c, A, mc, ms, Q⟩ := κ
  obtain ⟨⟨hx, hb, hml, hown, hts⟩, ⟨hr, hlk⟩, ⟨hst, hE, hA⟩, hR1, hR2, hR3, hR4⟩ := B
  subst hq
  intro H locs cells slots ls h1 h2 h3 h4 h5
  subst hv; exact lv_ishl hx hb d (kk H locs cells slots ls h1 h2 h3 h4 h5)
theorem g_ishr (B : Fx g κ own cc nL ret lvl) {x y v : Int32} (d : decode cc pc = .ok (.ishr, 1)) (hq : pc + 1 = q)  (hv : x >>> (y &&& 31) = v) (kk : Go g κ q lv (.int v :: st) L kc ks) : Go g κ pc lv (.int y :: .int x :: st) L kc ks := by
  obtain ⟨p, l, e, R, s, m, args, below, meth, c, A, mc, ms, Q⟩ := κ
  obtain ⟨⟨hx, hb, hml, hown, hts⟩, ⟨hr, hlk⟩, ⟨hst, hE, hA⟩, hR1, hR2, hR3, hR4⟩ := B
  subst hq
  intro H locs cells slots ls h1 h2 h3 h4 h5
  subst hv; exact lv_ishr hx hb d (kk H locs cells slots ls h1 h2 h3 h4 h5)
theorem g_iushr (B : Fx g κ own cc nL ret lvl) {x y v : Int32} (d : decode cc pc = .ok (.iushr, 1)) (hq : pc + 1 = q)  (hv : (x.toUInt32 >>> (y.toUInt32 &&& Int32.toUInt32 31)).toInt32 = v) (kk : Go g κ q lv (.int v :: st) L kc ks) : Go g κ pc lv (.int y :: .int x :: st) L kc ks := by
  obtain ⟨p, l, e, R, s, m, args, below, meth, c, A, mc, ms, Q⟩ := κ
  obtain ⟨⟨hx, hb, hml, hown, hts⟩, ⟨hr, hlk⟩, ⟨hst, hE, hA⟩, hR1, hR2, hR3, hR4⟩ := B
  subst hq
  intro H locs cells slots ls h1 h2 h3 h4 h5
  exact lv_iushr hx hb d hv (kk H locs cells slots ls h1 h2 h3 h4 h5)
theorem g_idiv (B : Fx g κ own cc nL ret lvl) {x y v : Int32} (d : decode cc pc = .ok (.idiv, 1)) (hq : pc + 1 = q) (hne : ¬ y = 0) (hv : x / y = v) (kk : Go g κ q lv (.int v :: st) L kc ks) : Go g κ pc lv (.int y :: .int x :: st) L kc ks := by
  obtain ⟨p, l, e, R, s, m, args, below, meth, c, A, mc, ms, Q⟩ := κ
  obtain ⟨⟨hx, hb, hml, hown, hts⟩, ⟨hr, hlk⟩, ⟨hst, hE, hA⟩, hR1, hR2, hR3, hR4⟩ := B
  subst hq
  intro H locs cells slots ls h1 h2 h3 h4 h5
  subst hv; exact lv_idiv hx hb d hne (kk H locs cells slots ls h1 h2 h3 h4 h5)
theorem g_irem (B : Fx g κ own cc nL ret lvl) {x y v : Int32} (d : decode cc pc = .ok (.irem, 1)) (hq : pc + 1 = q) (hne : ¬ y = 0) (hv : x - x / y * y = v) (kk : Go g κ q lv (.int v :: st) L kc ks) : Go g κ pc lv (.int y :: .int x :: st) L kc ks := by
  obtain ⟨p, l, e, R, s, m, args, below, meth, c, A, mc, ms, Q⟩ := κ
  obtain ⟨⟨hx, hb, hml, hown, hts⟩, ⟨hr, hlk⟩, ⟨hst, hE, hA⟩, hR1, hR2, hR3, hR4⟩ := B
  subst hq
  intro H locs cells slots ls h1 h2 h3 h4 h5
  subst hv; exact lv_irem hx hb d hne (kk H locs cells slots ls h1 h2 h3 h4 h5)
theorem g_ladd (B : Fx g κ own cc nL ret lvl) {x y v : Int64} (d : decode cc pc = .ok (.ladd, 1)) (hq : pc + 1 = q)  (hv : x + y = v) (kk : Go g κ q lv (.long v :: st) L kc ks) : Go g κ pc lv (.long y :: .long x :: st) L kc ks := by
  obtain ⟨p, l, e, R, s, m, args, below, meth, c, A, mc, ms, Q⟩ := κ
  obtain ⟨⟨hx, hb, hml, hown, hts⟩, ⟨hr, hlk⟩, ⟨hst, hE, hA⟩, hR1, hR2, hR3, hR4⟩ := B
  subst hq
  intro H locs cells slots ls h1 h2 h3 h4 h5
  subst hv; exact lv_ladd hx hb d (kk H locs cells slots ls h1 h2 h3 h4 h5)
theorem g_lsub (B : Fx g κ own cc nL ret lvl) {x y v : Int64} (d : decode cc pc = .ok (.lsub, 1)) (hq : pc + 1 = q)  (hv : x - y = v) (kk : Go g κ q lv (.long v :: st) L kc ks) : Go g κ pc lv (.long y :: .long x :: st) L kc ks := by
  obtain ⟨p, l, e, R, s, m, args, below, meth, c, A, mc, ms, Q⟩ := κ
  obtain ⟨⟨hx, hb, hml, hown, hts⟩, ⟨hr, hlk⟩, ⟨hst, hE, hA⟩, hR1, hR2, hR3, hR4⟩ := B
  subst hq
  intro H locs cells slots ls h1 h2 h3 h4 h5
  subst hv; exact lv_lsub hx hb d (kk H locs cells slots ls h1 h2 h3 h4 h5)
theorem g_lmul (B : Fx g κ own cc nL ret lvl) {x y v : Int64} (d : decode cc pc = .ok (.lmul, 1)) (hq : pc + 1 = q)  (hv : x * y = v) (kk : Go g κ q lv (.long v :: st) L kc ks) : Go g κ pc lv (.long y :: .long x :: st) L kc ks := by
  obtain ⟨p, l, e, R, s, m, args, below, meth, c, A, mc, ms, Q⟩ := κ
  obtain ⟨⟨hx, hb, hml, hown, hts⟩, ⟨hr, hlk⟩, ⟨hst, hE, hA⟩, hR1, hR2, hR3, hR4⟩ := B
  subst hq
  intro H locs cells slots ls h1 h2 h3 h4 h5
  subst hv; exact lv_lmul hx hb d (kk H locs cells slots ls h1 h2 h3 h4 h5)
theorem g_land (B : Fx g κ own cc nL ret lvl) {x y v : Int64} (d : decode cc pc = .ok (.land, 1)) (hq : pc + 1 = q)  (hv : x &&& y = v) (kk : Go g κ q lv (.long v :: st) L kc ks) : Go g κ pc lv (.long y :: .long x :: st) L kc ks := by
  obtain ⟨p, l, e, R, s, m, args, below, meth, c, A, mc, ms, Q⟩ := κ
  obtain ⟨⟨hx, hb, hml, hown, hts⟩, ⟨hr, hlk⟩, ⟨hst, hE, hA⟩, hR1, hR2, hR3, hR4⟩ := B
  subst hq
  intro H locs cells slots ls h1 h2 h3 h4 h5
  subst hv; exact lv_land hx hb d (kk H locs cells slots ls h1 h2 h3 h4 h5)
theorem g_lor (B : Fx g κ own cc nL ret lvl) {x y v : Int64} (d : decode cc pc = .ok (.lor, 1)) (hq : pc + 1 = q)  (hv : x ||| y = v) (kk : Go g κ q lv (.long v :: st) L kc ks) : Go g κ pc lv (.long y :: .long x :: st) L kc ks := by
  obtain ⟨p, l, e, R, s, m, args, below, meth, c, A, mc, ms, Q⟩ := κ
  obtain ⟨⟨hx, hb, hml, hown, hts⟩, ⟨hr, hlk⟩, ⟨hst, hE, hA⟩, hR1, hR2, hR3, hR4⟩ := B
  subst hq
  intro H locs cells slots ls h1 h2 h3 h4 h5
  subst hv; exact lv_lor hx hb d (kk H locs cells slots ls h1 h2 h3 h4 h5)
theorem g_lxor (B : Fx g κ own cc nL ret lvl) {x y v : Int64} (d : decode cc pc = .ok (.lxor, 1)) (hq : pc + 1 = q)  (hv : x ^^^ y = v) (kk : Go g κ q lv (.long v :: st) L kc ks) : Go g κ pc lv (.long y :: .long x :: st) L kc ks := by
  obtain ⟨p, l, e, R, s, m, args, below, meth, c, A, mc, ms, Q⟩ := κ
  obtain ⟨⟨hx, hb, hml, hown, hts⟩, ⟨hr, hlk⟩, ⟨hst, hE, hA⟩, hR1, hR2, hR3, hR4⟩ := B
  subst hq
  intro H locs cells slots ls h1 h2 h3 h4 h5
  subst hv; exact lv_lxor hx hb d (kk H locs cells slots ls h1 h2 h3 h4 h5)
theorem g_fdiv (B : Fx g κ own cc nL ret lvl) {x y v : UInt32} (d : decode cc pc = .ok (.fdiv, 1)) (hq : pc + 1 = q) (hne : vf_n32 (FP.fdiv x y)) (hv : FP.fdiv x y = v) (kk : Go g κ q lv (.float v :: st) L kc ks) : Go g κ pc lv (.float y :: .float x :: st) L kc ks := by
  obtain ⟨p, l, e, R, s, m, args, below, meth, c, A, mc, ms, Q⟩ := κ
  obtain ⟨⟨hx, hb, hml, hown, hts⟩, ⟨hr, hlk⟩, ⟨hst, hE, hA⟩, hR1, hR2, hR3, hR4⟩ := B
  subst hq
  intro H locs cells slots ls h1 h2 h3 h4 h5
  subst hv; exact lv_fdiv hx hb d hne (kk H locs cells slots ls h1 h2 h3 h4 h5)
theorem g_fmul (B : Fx g κ own cc nL ret lvl) {x y v : UInt32} (d : decode cc pc = .ok (.fmul, 1)) (hq : pc + 1 = q) (hne : vf_n32 (FP.fmul x y)) (hv : FP.fmul x y = v) (kk : Go g κ q lv (.float v :: st) L kc ks) : Go g κ pc lv (.float y :: .float x :: st) L kc ks := by
  obtain ⟨p, l, e, R, s, m, args, below, meth, c, A, mc, ms, Q⟩ := κ
  obtain ⟨⟨hx, hb, hml, hown, hts⟩, ⟨hr, hlk⟩, ⟨hst, hE, hA⟩, hR1, hR2, hR3, hR4⟩ := B
  subst hq
  intro H locs cells slots ls h1 h2 h3 h4 h5
  subst hv; exact lv_fmul hx hb d hne (kk H locs cells slots ls h1 h2 h3 h4 h5)
theorem g_ddiv (B : Fx g κ own cc nL ret lvl) {x y v : UInt64} (d : decode cc pc = .ok (.ddiv, 1)) (hq : pc + 1 = q) (hne : vf_n64 (FP.ddiv x y)) (hv : FP.ddiv x y = v) (kk : Go g κ q lv (.double v :: st) L kc ks) : Go g κ pc lv (.double y :: .double x :: st) L kc ks := by
  obtain ⟨p, l, e, R, s, m, args, below, meth, c, A, mc, ms, Q⟩ := κ
  obtain ⟨⟨hx, hb, hml, hown, hts⟩, ⟨hr, hlk⟩, ⟨hst, hE, hA⟩, hR1, hR2, hR3, hR4⟩ := B
  subst hq
  intro H locs cells slots ls h1 h2 h3 h4 h5
  subst hv; exact lv_ddiv hx hb d hne (kk H locs cells slots ls h1 h2 h3 h4 h5)
theorem g_lshl (B : Fx g κ own cc nL ret lvl) {x v : Int64} {y : Int32} (d : decode cc pc = .ok (.lshl, 1)) (hq : pc + 1 = q) (hv : x <<< (y.toInt64 &&& 63) = v) (kk : Go g κ q lv (.long v :: st) L kc ks) : Go g κ pc lv (.int y :: .long x :: st) L kc ks := by
  obtain ⟨p, l, e, R, s, m, args, below, meth, c, A, mc, ms, Q⟩ := κ
  obtain ⟨⟨hx, hb, hml, hown, hts⟩, ⟨hr, hlk⟩, ⟨hst, hE, hA⟩, hR1, hR2, hR3, hR4⟩ := B
  subst hq
  intro H locs cells slots ls h1 h2 h3 h4 h5
  exact lv_lshl hx hb d hv (kk H locs cells slots ls h1 h2 h3 h4 h5)
theorem g_lushr (B : Fx g κ own cc nL ret lvl) {x v : Int64} {y : Int32} (d : decode cc pc = .ok (.lushr, 1)) (hq : pc + 1 = q) (hv : (x.toUInt64 >>> (y.toInt64.toUInt64 &&& Int64.toUInt64 63)).toInt64 = v) (kk : Go g κ q lv (.long v :: st) L kc ks) : Go g κ pc lv (.int y :: .long x :: st) L kc ks := by
  obtain ⟨p, l, e, R, s, m, args, below, meth, c, A, mc, ms, Q⟩ := κ
  obtain ⟨⟨hx, hb, hml, hown, hts⟩, ⟨hr, hlk⟩, ⟨hst, hE, hA⟩, hR1, hR2, hR3, hR4⟩ := B
  subst hq
  intro H locs cells slots ls h1 h2 h3 h4 h5
  exact lv_lushr hx hb d hv (kk H locs cells slots ls h1 h2 h3 h4 h5)
theorem g_ineg (B : Fx g κ own cc nL ret lvl) {x : Int32} {v : Int32} (d : decode cc pc = .ok (.ineg, 1)) (hq : pc + 1 = q)  (hv : -x = v) (kk : Go g κ q lv (.int v :: st) L kc ks) : Go g κ pc lv (.int x :: st) L kc ks := by
  obtain ⟨p, l, e, R, s, m, args, below, meth, c, A, mc, ms, Q⟩ := κ
  obtain ⟨⟨hx, hb, hml, hown, hts⟩, ⟨hr, hlk⟩, ⟨hst, hE, hA⟩, hR1, hR2, hR3, hR4⟩ := B
  subst hq
  intro H locs cells slots ls h1 h2 h3 h4 h5
  subst hv; exact lv_ineg hx hb d (kk H locs cells slots ls h1 h2 h3 h4 h5)
theorem g_i2l (B : Fx g κ own cc nL ret lvl) {x : Int32} {v : Int64} (d : decode cc pc = .ok (.i2l, 1)) (hq : pc + 1 = q)  (hv : x.toInt64 = v) (kk : Go g κ q lv (.long v :: st) L kc ks) : Go g κ pc lv (.int x :: st) L kc ks := by
  obtain ⟨p, l, e, R, s, m, args, below, meth, c, A, mc, ms, Q⟩ := κ
  obtain ⟨⟨hx, hb, hml, hown, hts⟩, ⟨hr, hlk⟩, ⟨hst, hE, hA⟩, hR1, hR2, hR3, hR4⟩ := B
  subst hq
  intro H locs cells slots ls h1 h2 h3 h4 h5
  exact lv_i2l hx hb d hv (kk H locs cells slots ls h1 h2 h3 h4 h5)
theorem g_l2i (B : Fx g κ own cc nL ret lvl) {x : Int64} {v : Int32} (d : decode cc pc = .ok (.l2i, 1)) (hq : pc + 1 = q)  (hv : x.toInt32 = v) (kk : Go g κ q lv (.int v :: st) L kc ks) : Go g κ pc lv (.long x :: st) L kc ks := by
  obtain ⟨p, l, e, R, s, m, args, below, meth, c, A, mc, ms, Q⟩ := κ
  obtain ⟨⟨hx, hb, hml, hown, hts⟩, ⟨hr, hlk⟩, ⟨hst, hE, hA⟩, hR1, hR2, hR3, hR4⟩ := B
  subst hq
  intro H locs cells slots ls h1 h2 h3 h4 h5
  exact lv_l2i hx hb d hv (kk H locs cells slots ls h1 h2 h3 h4 h5)
theorem g_i2b (B : Fx g κ own cc nL ret lvl) {x : Int32} {v : Int32} (d : decode cc pc = .ok (.i2b, 1)) (hq : pc + 1 = q)  (hv : x.toInt8.toInt32 = v) (kk : Go g κ q lv (.int v :: st) L kc ks) : Go g κ pc lv (.int x :: st) L kc ks := by
  obtain ⟨p, l, e, R, s, m, args, below, meth, c, A, mc, ms, Q⟩ := κ
  obtain ⟨⟨hx, hb, hml, hown, hts⟩, ⟨hr, hlk⟩, ⟨hst, hE, hA⟩, hR1, hR2, hR3, hR4⟩ := B
  subst hq
  intro H locs cells slots ls h1 h2 h3 h4 h5
  exact lv_i2b hx hb d hv (kk H locs cells slots ls h1 h2 h3 h4 h5)
theorem g_i2c (B : Fx g κ own cc nL ret lvl) {x : Int32} {v : Int32} (d : decode cc pc = .ok (.i2c, 1)) (hq : pc + 1 = q)  (hv : (x.toUInt32 % 65536).toInt32 = v) (kk : Go g κ q lv (.int v :: st) L kc ks) : Go g κ pc lv (.int x :: st) L kc ks := by
  obtain ⟨p, l, e, R, s, m, args, below, meth, c, A, mc, ms, Q⟩ := κ
  obtain ⟨⟨hx, hb, hml, hown, hts⟩, ⟨hr, hlk⟩, ⟨hst, hE, hA⟩, hR1, hR2, hR3, hR4⟩ := B
  subst hq
  intro H locs cells slots ls h1 h2 h3 h4 h5
  exact lv_i2c hx hb d hv (kk H locs cells slots ls h1 h2 h3 h4 h5)
theorem g_i2f (B : Fx g κ own cc nL ret lvl) {x : Int32} {v : UInt32} (d : decode cc pc = .ok (.i2f, 1)) (hq : pc + 1 = q)  (hv : FP.i2f x = v) (kk : Go g κ q lv (.float v :: st) L kc ks) : Go g κ pc lv (.int x :: st) L kc ks := by
  obtain ⟨p, l, e, R, s, m, args, below, meth, c, A, mc, ms, Q⟩ := κ
  obtain ⟨⟨hx, hb, hml, hown, hts⟩, ⟨hr, hlk⟩, ⟨hst, hE, hA⟩, hR1, hR2, hR3, hR4⟩ := B
  subst hq
  intro H locs cells slots ls h1 h2 h3 h4 h5
  subst hv; exact lv_i2f hx hb d (kk H locs cells slots ls h1 h2 h3 h4 h5)
theorem g_i2d (B : Fx g κ own cc nL ret lvl) {x : Int32} {v : UInt64} (d : decode cc pc = .ok (.i2d, 1)) (hq : pc + 1 = q)  (hv : FP.i2d x = v) (kk : Go g κ q lv (.double v :: st) L kc ks) : Go g κ pc lv (.int x :: st) L kc ks := by
  obtain ⟨p, l, e, R, s, m, args, below, meth, c, A, mc, ms, Q⟩ := κ
  obtain ⟨⟨hx, hb, hml, hown, hts⟩, ⟨hr, hlk⟩, ⟨hst, hE, hA⟩, hR1, hR2, hR3, hR4⟩ := B
  subst hq
  intro H locs cells slots ls h1 h2 h3 h4 h5
  subst hv; exact lv_i2d hx hb d (kk H locs cells slots ls h1 h2 h3 h4 h5)
theorem g_f2d (B : Fx g κ own cc nL ret lvl) {x : UInt32} {v : UInt64} (d : decode cc pc = .ok (.f2d, 1)) (hq : pc + 1 = q) (hne : vf_n64 (FP.f2d x)) (hv : FP.f2d x = v) (kk : Go g κ q lv (.double v :: st) L kc ks) : Go g κ pc lv (.float x :: st) L kc ks := by
  obtain ⟨p, l, e, R, s, m, args, below, meth, c, A, mc, ms, Q⟩ := κ
  obtain ⟨⟨hx, hb, hml, hown, hts⟩, ⟨hr, hlk⟩, ⟨hst, hE, hA⟩, hR1, hR2, hR3, hR4⟩ := B
  subst hq
  intro H locs cells slots ls h1 h2 h3 h4 h5
  subst hv; exact lv_f2d hx hb d hne (kk H locs cells slots ls h1 h2 h3 h4 h5)
theorem g_f2i (B : Fx g κ own cc nL ret lvl) {x : UInt32} {v : Int32} (d : decode cc pc = .ok (.f2i, 1)) (hq : pc + 1 = q)  (hv : FP.f2i x = v) (kk : Go g κ q lv (.int v :: st) L kc ks) : Go g κ pc lv (.float x :: st) L kc ks := by
  obtain ⟨p, l, e, R, s, m, args, below, meth, c, A, mc, ms, Q⟩ := κ
  obtain ⟨⟨hx, hb, hml, hown, hts⟩, ⟨hr, hlk⟩, ⟨hst, hE, hA⟩, hR1, hR2, hR3, hR4⟩ := B
  subst hq
  intro H locs cells slots ls h1 h2 h3 h4 h5
  subst hv; exact lv_f2i hx hb d (kk H locs cells slots ls h1 h2 h3 h4 h5)
theorem g_lcmp (B : Fx g κ own cc nL ret lvl) {x y : Int64} {v : Int32} (d : decode cc pc = .ok (.lcmp, 1)) (hq : pc + 1 = q) (hv : lg_cmp x y = v) (kk : Go g κ q lv (.int v :: st) L kc ks) : Go g κ pc lv (.long y :: .long x :: st) L kc ks := by
  obtain ⟨p, l, e, R, s, m, args, below, meth, c, A, mc, ms, Q⟩ := κ
  obtain ⟨⟨hx, hb, hml, hown, hts⟩, ⟨hr, hlk⟩, ⟨hst, hE, hA⟩, hR1, hR2, hR3, hR4⟩ := B
  subst hq
  intro H locs cells slots ls h1 h2 h3 h4 h5
  subst hv; exact W.lcmp hx hb d (kk H locs cells slots ls h1 h2 h3 h4 h5)
theorem g_fcmp (B : Fx g κ own cc nL ret lvl) {x y : UInt32} {v : Int32} {op : CmpOp} (d : decode cc pc = .ok (.fcmp op, 1)) (hq : pc + 1 = q) (hv : Op.cmpValue (FP.fcmp x y) op = v) (kk : Go g κ q lv (.int v :: st) L kc ks) : Go g κ pc lv (.float y :: .float x :: st) L kc ks := by
  obtain ⟨p, l, e, R, s, m, args, below, meth, c, A, mc, ms, Q⟩ := κ
  obtain ⟨⟨hx, hb, hml, hown, hts⟩, ⟨hr, hlk⟩, ⟨hst, hE, hA⟩, hR1, hR2, hR3, hR4⟩ := B
  subst hq
  intro H locs cells slots ls h1 h2 h3 h4 h5
  subst hv; exact lv_fcmp hx hb d (kk H locs cells slots ls h1 h2 h3 h4 h5)
theorem g_dcmp (B : Fx g κ own cc nL ret lvl) {x y : UInt64} {v : Int32} {op : CmpOp} (d : decode cc pc = .ok (.dcmp op, 1)) (hq : pc + 1 = q) (hv : Op.cmpValue (FP.dcmp x y) op = v) (kk : Go g κ q lv (.int v :: st) L kc ks) : Go g κ pc lv (.double y :: .double x :: st) L kc ks := by
  obtain ⟨p, l, e, R, s, m, args, below, meth, c, A, mc, ms, Q⟩ := κ
  obtain ⟨⟨hx, hb, hml, hown, hts⟩, ⟨hr, hlk⟩, ⟨hst, hE, hA⟩, hR1, hR2, hR3, hR4⟩ := B
  subst hq
  intro H locs cells slots ls h1 h2 h3 h4 h5
  subst hv; exact lv_dcmp hx hb d (kk H locs cells slots ls h1 h2 h3 h4 h5)
theorem g_dup (B : Fx g κ own cc nL ret lvl) {va : Value} (d : decode cc pc = .ok (.dup, 1)) (hq : pc + 1 = q) (hva : va.category = 1) (kk : Go g κ q lv (va :: va :: st) L kc ks) : Go g κ pc lv (va :: st) L kc ks := by
  obtain ⟨p, l, e, R, s, m, args, below, meth, c, A, mc, ms, Q⟩ := κ
  obtain ⟨⟨hx, hb, hml, hown, hts⟩, ⟨hr, hlk⟩, ⟨hst, hE, hA⟩, hR1, hR2, hR3, hR4⟩ := B
  subst hq
  intro H locs cells slots ls h1 h2 h3 h4 h5
  exact lv_dup hx hb d hva (kk H locs cells slots ls h1 h2 h3 h4 h5)
theorem g_pop (B : Fx g κ own cc nL ret lvl) {va : Value} (d : decode cc pc = .ok (.pop, 1)) (hq : pc + 1 = q) (hva : va.category = 1) (kk : Go g κ q lv (st) L kc ks) : Go g κ pc lv (va :: st) L kc ks := by
  obtain ⟨p, l, e, R, s, m, args, below, meth, c, A, mc, ms, Q⟩ := κ
  obtain ⟨⟨hx, hb, hml, hown, hts⟩, ⟨hr, hlk⟩, ⟨hst, hE, hA⟩, hR1, hR2, hR3, hR4⟩ := B
  subst hq
  intro H locs cells slots ls h1 h2 h3 h4 h5
  exact lv_pop hx hb d hva (kk H locs cells slots ls h1 h2 h3 h4 h5)
theorem g_dup_x1 (B : Fx g κ own cc nL ret lvl) {va vb : Value} (d : decode cc pc = .ok (.dup_x1, 1)) (hq : pc + 1 = q) (hva : va.category = 1) (hvb : vb.category = 1) (kk : Go g κ q lv (va :: vb :: va :: st) L kc ks) : Go g κ pc lv (va :: vb :: st) L kc ks := by
  obtain ⟨p, l, e, R, s, m, args, below, meth, c, A, mc, ms, Q⟩ := κ
  obtain ⟨⟨hx, hb, hml, hown, hts⟩, ⟨hr, hlk⟩, ⟨hst, hE, hA⟩, hR1, hR2, hR3, hR4⟩ := B
  subst hq
  intro H locs cells slots ls h1 h2 h3 h4 h5
  exact lv_dup_x1 hx hb d hva hvb (kk H locs cells slots ls h1 h2 h3 h4 h5)
theorem g_dup_x2 (B : Fx g κ own cc nL ret lvl) {va vb vd : Value} (d : decode cc pc = .ok (.dup_x2, 1)) (hq : pc + 1 = q) (hva : va.category = 1) (hvb : vb.category = 1) (hvd : vd.category = 1) (kk : Go g κ q lv (va :: vb :: vd :: va :: st) L kc ks) : Go g κ pc lv (va :: vb :: vd :: st) L kc ks := by
  obtain ⟨p, l, e, R, s, m, args, below, meth, c, A, mc, ms, Q⟩ := κ
  obtain ⟨⟨hx, hb, hml, hown, hts⟩, ⟨hr, hlk⟩, ⟨hst, hE, hA⟩, hR1, hR2, hR3, hR4⟩ := B
  subst hq
  intro H locs cells slots ls h1 h2 h3 h4 h5
  exact lv_dup_x2 hx hb d hva hvb hvd (kk H locs cells slots ls h1 h2 h3 h4 h5)
theorem g_dup2_11 (B : Fx g κ own cc nL ret lvl) {va vb : Value} (d : decode cc pc = .ok (.dup2, 1)) (hq : pc + 1 = q) (hva : va.category = 1) (hvb : vb.category = 1) (kk : Go g κ q lv (va :: vb :: va :: vb :: st) L kc ks) : Go g κ pc lv (va :: vb :: st) L kc ks := by
  obtain ⟨p, l, e, R, s, m, args, below, meth, c, A, mc, ms, Q⟩ := κ
  obtain ⟨⟨hx, hb, hml, hown, hts⟩, ⟨hr, hlk⟩, ⟨hst, hE, hA⟩, hR1, hR2, hR3, hR4⟩ := B
  subst hq
  intro H locs cells slots ls h1 h2 h3 h4 h5
  exact lv_dup2_11 hx hb d hva hvb (kk H locs cells slots ls h1 h2 h3 h4 h5)
theorem g_dup2_2 (B : Fx g κ own cc nL ret lvl) {va : Value} (d : decode cc pc = .ok (.dup2, 1)) (hq : pc + 1 = q) (hva : va.category = 2) (kk : Go g κ q lv (va :: va :: st) L kc ks) : Go g κ pc lv (va :: st) L kc ks := by
  obtain ⟨p, l, e, R, s, m, args, below, meth, c, A, mc, ms, Q⟩ := κ
  obtain ⟨⟨hx, hb, hml, hown, hts⟩, ⟨hr, hlk⟩, ⟨hst, hE, hA⟩, hR1, hR2, hR3, hR4⟩ := B
  subst hq
  intro H locs cells slots ls h1 h2 h3 h4 h5
  exact lv_dup2_2 hx hb d hva (kk H locs cells slots ls h1 h2 h3 h4 h5)
theorem rv_c {v : Value} (h : isRv v) : v.category = 1 := by
  rcases h with rfl | ⟨a, rfl⟩ <;> rfl
theorem g_if_eq (B : Fx g κ own cc nL ret lvl) {x : Int32} {off : Int} {tgt : Nat} {Pp : Prop} (d : decode cc pc = .ok (.ifCond .eq off, 3)) (hq : pc + 3 = q) (ht : (pc : Int) + off = (tgt : Int)) (hc : (x = 0) ↔ Pp) (kt : Pp → Go g κ tgt lv st L kc ks) (kf : ¬ Pp → Go g κ q lv st L kc ks) : Go g κ pc lv (.int x :: st) L kc ks := by
  obtain ⟨p, l, e, R, s, m, args, below, meth, c, A, mc, ms, Q⟩ := κ
  obtain ⟨⟨hx, hb, hml, hown, hts⟩, ⟨hr, hlk⟩, ⟨hst, hE, hA⟩, hR1, hR2, hR3, hR4⟩ := B
  subst hq
  intro H locs cells slots ls h1 h2 h3 h4 h5
  exact lv_if_eq hx hb d ht (fun h9 => kt (hc.mp h9) H locs cells slots ls h1 h2 h3 h4 h5) (fun h9 => kf (fun z => h9 (hc.mpr z)) H locs cells slots ls h1 h2 h3 h4 h5)
theorem g_if_ne (B : Fx g κ own cc nL ret lvl) {x : Int32} {off : Int} {tgt : Nat} {Pp : Prop} (d : decode cc pc = .ok (.ifCond .ne off, 3)) (hq : pc + 3 = q) (ht : (pc : Int) + off = (tgt : Int)) (hc : (¬ x = 0) ↔ Pp) (kt : Pp → Go g κ tgt lv st L kc ks) (kf : ¬ Pp → Go g κ q lv st L kc ks) : Go g κ pc lv (.int x :: st) L kc ks := by
  obtain ⟨p, l, e, R, s, m, args, below, meth, c, A, mc, ms, Q⟩ := κ
  obtain ⟨⟨hx, hb, hml, hown, hts⟩, ⟨hr, hlk⟩, ⟨hst, hE, hA⟩, hR1, hR2, hR3, hR4⟩ := B
  subst hq
  intro H locs cells slots ls h1 h2 h3 h4 h5
  exact lv_if_ne hx hb d ht (fun h9 => kt (hc.mp h9) H locs cells slots ls h1 h2 h3 h4 h5) (fun h9 => kf (fun z => (hc.mpr z) h9) H locs cells slots ls h1 h2 h3 h4 h5)
theorem g_if_lt (B : Fx g κ own cc nL ret lvl) {x : Int32} {off : Int} {tgt : Nat} {Pp : Prop} (d : decode cc pc = .ok (.ifCond .lt off, 3)) (hq : pc + 3 = q) (ht : (pc : Int) + off = (tgt : Int)) (hc : (x < 0) ↔ Pp) (kt : Pp → Go g κ tgt lv st L kc ks) (kf : ¬ Pp → Go g κ q lv st L kc ks) : Go g κ pc lv (.int x :: st) L kc ks := by
  obtain ⟨p, l, e, R, s, m, args, below, meth, c, A, mc, ms, Q⟩ := κ
  obtain ⟨⟨hx, hb, hml, hown, hts⟩, ⟨hr, hlk⟩, ⟨hst, hE, hA⟩, hR1, hR2, hR3, hR4⟩ := B
  subst hq
  intro H locs cells slots ls h1 h2 h3 h4 h5
  exact lv_if_lt hx hb d ht (fun h9 => kt (hc.mp h9) H locs cells slots ls h1 h2 h3 h4 h5) (fun h9 => kf (fun z => h9 (hc.mpr z)) H locs cells slots ls h1 h2 h3 h4 h5)
theorem g_if_ge (B : Fx g κ own cc nL ret lvl) {x : Int32} {off : Int} {tgt : Nat} {Pp : Prop} (d : decode cc pc = .ok (.ifCond .ge off, 3)) (hq : pc + 3 = q) (ht : (pc : Int) + off = (tgt : Int)) (hc : (0 ≤ x) ↔ Pp) (kt : Pp → Go g κ tgt lv st L kc ks) (kf : ¬ Pp → Go g κ q lv st L kc ks) : Go g κ pc lv (.int x :: st) L kc ks := by
  obtain ⟨p, l, e, R, s, m, args, below, meth, c, A, mc, ms, Q⟩ := κ
  obtain ⟨⟨hx, hb, hml, hown, hts⟩, ⟨hr, hlk⟩, ⟨hst, hE, hA⟩, hR1, hR2, hR3, hR4⟩ := B
  subst hq
  intro H locs cells slots ls h1 h2 h3 h4 h5
  exact lv_if_ge hx hb d ht (fun h9 => kt (hc.mp h9) H locs cells slots ls h1 h2 h3 h4 h5) (fun h9 => kf (fun z => h9 (hc.mpr z)) H locs cells slots ls h1 h2 h3 h4 h5)
theorem g_if_gt (B : Fx g κ own cc nL ret lvl) {x : Int32} {off : Int} {tgt : Nat} {Pp : Prop} (d : decode cc pc = .ok (.ifCond .gt off, 3)) (hq : pc + 3 = q) (ht : (pc : Int) + off = (tgt : Int)) (hc : (0 < x) ↔ Pp) (kt : Pp → Go g κ tgt lv st L kc ks) (kf : ¬ Pp → Go g κ q lv st L kc ks) : Go g κ pc lv (.int x :: st) L kc ks := by
  obtain ⟨p, l, e, R, s, m, args, below, meth, c, A, mc, ms, Q⟩ := κ
  obtain ⟨⟨hx, hb, hml, hown, hts⟩, ⟨hr, hlk⟩, ⟨hst, hE, hA⟩, hR1, hR2, hR3, hR4⟩ := B
  subst hq
  intro H locs cells slots ls h1 h2 h3 h4 h5
  exact lv_if_gt hx hb d ht (fun h9 => kt (hc.mp h9) H locs cells slots ls h1 h2 h3 h4 h5) (fun h9 => kf (fun z => h9 (hc.mpr z)) H locs cells slots ls h1 h2 h3 h4 h5)
theorem g_if_le (B : Fx g κ own cc nL ret lvl) {x : Int32} {off : Int} {tgt : Nat} {Pp : Prop} (d : decode cc pc = .ok (.ifCond .le off, 3)) (hq : pc + 3 = q) (ht : (pc : Int) + off = (tgt : Int)) (hc : (x ≤ 0) ↔ Pp) (kt : Pp → Go g κ tgt lv st L kc ks) (kf : ¬ Pp → Go g κ q lv st L kc ks) : Go g κ pc lv (.int x :: st) L kc ks := by
  obtain ⟨p, l, e, R, s, m, args, below, meth, c, A, mc, ms, Q⟩ := κ
  obtain ⟨⟨hx, hb, hml, hown, hts⟩, ⟨hr, hlk⟩, ⟨hst, hE, hA⟩, hR1, hR2, hR3, hR4⟩ := B
  subst hq
  intro H locs cells slots ls h1 h2 h3 h4 h5
  exact lv_if_le hx hb d ht (fun h9 => kt (hc.mp h9) H locs cells slots ls h1 h2 h3 h4 h5) (fun h9 => kf (fun z => h9 (hc.mpr z)) H locs cells slots ls h1 h2 h3 h4 h5)
theorem g_icmp_eq (B : Fx g κ own cc nL ret lvl) {x y : Int32} {off : Int} {tgt : Nat} {Pp : Prop} (d : decode cc pc = .ok (.if_icmp .eq off, 3)) (hq : pc + 3 = q) (ht : (pc : Int) + off = (tgt : Int)) (hc : (x = y) ↔ Pp) (kt : Pp → Go g κ tgt lv st L kc ks) (kf : ¬ Pp → Go g κ q lv st L kc ks) : Go g κ pc lv (.int y :: .int x :: st) L kc ks := by
  obtain ⟨p, l, e, R, s, m, args, below, meth, c, A, mc, ms, Q⟩ := κ
  obtain ⟨⟨hx, hb, hml, hown, hts⟩, ⟨hr, hlk⟩, ⟨hst, hE, hA⟩, hR1, hR2, hR3, hR4⟩ := B
  subst hq
  intro H locs cells slots ls h1 h2 h3 h4 h5
  exact lv_icmp_eq hx hb d ht (fun h9 => kt (hc.mp h9) H locs cells slots ls h1 h2 h3 h4 h5) (fun h9 => kf (fun z => h9 (hc.mpr z)) H locs cells slots ls h1 h2 h3 h4 h5)
theorem g_icmp_ne (B : Fx g κ own cc nL ret lvl) {x y : Int32} {off : Int} {tgt : Nat} {Pp : Prop} (d : decode cc pc = .ok (.if_icmp .ne off, 3)) (hq : pc + 3 = q) (ht : (pc : Int) + off = (tgt : Int)) (hc : (¬ x = y) ↔ Pp) (kt : Pp → Go g κ tgt lv st L kc ks) (kf : ¬ Pp → Go g κ q lv st L kc ks) : Go g κ pc lv (.int y :: .int x :: st) L kc ks := by
  obtain ⟨p, l, e, R, s, m, args, below, meth, c, A, mc, ms, Q⟩ := κ
  obtain ⟨⟨hx, hb, hml, hown, hts⟩, ⟨hr, hlk⟩, ⟨hst, hE, hA⟩, hR1, hR2, hR3, hR4⟩ := B
  subst hq
  intro H locs cells slots ls h1 h2 h3 h4 h5
  exact lv_icmp_ne hx hb d ht (fun h9 => kt (hc.mp h9) H locs cells slots ls h1 h2 h3 h4 h5) (fun h9 => kf (fun z => (hc.mpr z) h9) H locs cells slots ls h1 h2 h3 h4 h5)
theorem g_icmp_lt (B : Fx g κ own cc nL ret lvl) {x y : Int32} {off : Int} {tgt : Nat} {Pp : Prop} (d : decode cc pc = .ok (.if_icmp .lt off, 3)) (hq : pc + 3 = q) (ht : (pc : Int) + off = (tgt : Int)) (hc : (x < y) ↔ Pp) (kt : Pp → Go g κ tgt lv st L kc ks) (kf : ¬ Pp → Go g κ q lv st L kc ks) : Go g κ pc lv (.int y :: .int x :: st) L kc ks := by
  obtain ⟨p, l, e, R, s, m, args, below, meth, c, A, mc, ms, Q⟩ := κ
  obtain ⟨⟨hx, hb, hml, hown, hts⟩, ⟨hr, hlk⟩, ⟨hst, hE, hA⟩, hR1, hR2, hR3, hR4⟩ := B
  subst hq
  intro H locs cells slots ls h1 h2 h3 h4 h5
  exact lv_icmp_lt hx hb d ht (fun h9 => kt (hc.mp h9) H locs cells slots ls h1 h2 h3 h4 h5) (fun h9 => kf (fun z => h9 (hc.mpr z)) H locs cells slots ls h1 h2 h3 h4 h5)
theorem g_icmp_ge (B : Fx g κ own cc nL ret lvl) {x y : Int32} {off : Int} {tgt : Nat} {Pp : Prop} (d : decode cc pc = .ok (.if_icmp .ge off, 3)) (hq : pc + 3 = q) (ht : (pc : Int) + off = (tgt : Int)) (hc : (y ≤ x) ↔ Pp) (kt : Pp → Go g κ tgt lv st L kc ks) (kf : ¬ Pp → Go g κ q lv st L kc ks) : Go g κ pc lv (.int y :: .int x :: st) L kc ks := by
  obtain ⟨p, l, e, R, s, m, args, below, meth, c, A, mc, ms, Q⟩ := κ
  obtain ⟨⟨hx, hb, hml, hown, hts⟩, ⟨hr, hlk⟩, ⟨hst, hE, hA⟩, hR1, hR2, hR3, hR4⟩ := B
  subst hq
  intro H locs cells slots ls h1 h2 h3 h4 h5
  exact lv_icmp_ge hx hb d ht (fun h9 => kt (hc.mp h9) H locs cells slots ls h1 h2 h3 h4 h5) (fun h9 => kf (fun z => h9 (hc.mpr z)) H locs cells slots ls h1 h2 h3 h4 h5)
theorem g_icmp_gt (B : Fx g κ own cc nL ret lvl) {x y : Int32} {off : Int} {tgt : Nat} {Pp : Prop} (d : decode cc pc = .ok (.if_icmp .gt off, 3)) (hq : pc + 3 = q) (ht : (pc : Int) + off = (tgt : Int)) (hc : (y < x) ↔ Pp) (kt : Pp → Go g κ tgt lv st L kc ks) (kf : ¬ Pp → Go g κ q lv st L kc ks) : Go g κ pc lv (.int y :: .int x :: st) L kc ks := by
  obtain ⟨p, l, e, R, s, m, args, below, meth, c, A, mc, ms, Q⟩ := κ
  obtain ⟨⟨hx, hb, hml, hown, hts⟩, ⟨hr, hlk⟩, ⟨hst, hE, hA⟩, hR1, hR2, hR3, hR4⟩ := B
  subst hq
  intro H locs cells slots ls h1 h2 h3 h4 h5
  exact lv_icmp_gt hx hb d ht (fun h9 => kt (hc.mp h9) H locs cells slots ls h1 h2 h3 h4 h5) (fun h9 => kf (fun z => h9 (hc.mpr z)) H locs cells slots ls h1 h2 h3 h4 h5)
theorem g_icmp_le (B : Fx g κ own cc nL ret lvl) {x y : Int32} {off : Int} {tgt : Nat} {Pp : Prop} (d : decode cc pc = .ok (.if_icmp .le off, 3)) (hq : pc + 3 = q) (ht : (pc : Int) + off = (tgt : Int)) (hc : (x ≤ y) ↔ Pp) (kt : Pp → Go g κ tgt lv st L kc ks) (kf : ¬ Pp → Go g κ q lv st L kc ks) : Go g κ pc lv (.int y :: .int x :: st) L kc ks := by
  obtain ⟨p, l, e, R, s, m, args, below, meth, c, A, mc, ms, Q⟩ := κ
  obtain ⟨⟨hx, hb, hml, hown, hts⟩, ⟨hr, hlk⟩, ⟨hst, hE, hA⟩, hR1, hR2, hR3, hR4⟩ := B
  subst hq
  intro H locs cells slots ls h1 h2 h3 h4 h5
  exact lv_icmp_le hx hb d ht (fun h9 => kt (hc.mp h9) H locs cells slots ls h1 h2 h3 h4 h5) (fun h9 => kf (fun z => h9 (hc.mpr z)) H locs cells slots ls h1 h2 h3 h4 h5)
theorem g_acmp_eq (B : Fx g κ own cc nL ret lvl) {vx vy : Value} {rx ry : Option Nat} {off : Int} {tgt : Nat} {Pp : Prop} (d : decode cc pc = .ok (.if_acmp .eq off, 3)) (hq : pc + 3 = q) (ht : (pc : Int) + off = (tgt : Int)) (hvx : vx = va_rf rx) (hvy : vy = va_rf ry) (hc : (rx = ry) ↔ Pp) (kt : Pp → Go g κ tgt lv st L kc ks) (kf : ¬ Pp → Go g κ q lv st L kc ks) : Go g κ pc lv (vy :: vx :: st) L kc ks := by
  obtain ⟨p, l, e, R, s, m, args, below, meth, c, A, mc, ms, Q⟩ := κ
  obtain ⟨⟨hx, hb, hml, hown, hts⟩, ⟨hr, hlk⟩, ⟨hst, hE, hA⟩, hR1, hR2, hR3, hR4⟩ := B
  subst hq; subst hvx; subst hvy
  intro H locs cells slots ls h1 h2 h3 h4 h5
  exact lv_acmp_eq hx hb d ht (fun h9 => kt (hc.mp h9) H locs cells slots ls h1 h2 h3 h4 h5) (fun h9 => kf (fun z => h9 (hc.mpr z)) H locs cells slots ls h1 h2 h3 h4 h5)
theorem g_acmp_ne (B : Fx g κ own cc nL ret lvl) {vx vy : Value} {rx ry : Option Nat} {off : Int} {tgt : Nat} {Pp : Prop} (d : decode cc pc = .ok (.if_acmp .ne off, 3)) (hq : pc + 3 = q) (ht : (pc : Int) + off = (tgt : Int)) (hvx : vx = va_rf rx) (hvy : vy = va_rf ry) (hc : (¬ rx = ry) ↔ Pp) (kt : Pp → Go g κ tgt lv st L kc ks) (kf : ¬ Pp → Go g κ q lv st L kc ks) : Go g κ pc lv (vy :: vx :: st) L kc ks := by
  obtain ⟨p, l, e, R, s, m, args, below, meth, c, A, mc, ms, Q⟩ := κ
  obtain ⟨⟨hx, hb, hml, hown, hts⟩, ⟨hr, hlk⟩, ⟨hst, hE, hA⟩, hR1, hR2, hR3, hR4⟩ := B
  subst hq; subst hvx; subst hvy
  intro H locs cells slots ls h1 h2 h3 h4 h5
  exact lv_acmp_ne hx hb d ht (fun h9 => kt (hc.mp h9) H locs cells slots ls h1 h2 h3 h4 h5) (fun h9 => kf (fun z => (hc.mpr z) h9) H locs cells slots ls h1 h2 h3 h4 h5)
theorem g_goto (B : Fx g κ own cc nL ret lvl) {off : Int} {tgt : Nat} (d : decode cc pc = .ok (.goto off, 3)) (ht : (pc : Int) + off = (tgt : Int)) (kk : Go g κ tgt lv st L kc ks) : Go g κ pc lv st L kc ks := by
  obtain ⟨p, l, e, R, s, m, args, below, meth, c, A, mc, ms, Q⟩ := κ
  obtain ⟨⟨hx, hb, hml, hown, hts⟩, ⟨hr, hlk⟩, ⟨hst, hE, hA⟩, hR1, hR2, hR3, hR4⟩ := B
  intro H locs cells slots ls h1 h2 h3 h4 h5
  exact lv_goto hx hb d ht (kk H locs cells slots ls h1 h2 h3 h4 h5)
theorem g_ifnull_r (B : Fx g κ own cc nL ret lvl) {a : Nat} {off : Int} (d : decode cc pc = .ok (.ifnull off, 3)) (hq : pc + 3 = q) (kk : Go g κ q lv st L kc ks) : Go g κ pc lv (.ref a :: st) L kc ks := by
  obtain ⟨p, l, e, R, s, m, args, below, meth, c, A, mc, ms, Q⟩ := κ
  obtain ⟨⟨hx, hb, hml, hown, hts⟩, ⟨hr, hlk⟩, ⟨hst, hE, hA⟩, hR1, hR2, hR3, hR4⟩ := B
  subst hq
  intro H locs cells slots ls h1 h2 h3 h4 h5
  exact lv_ifnull hx hb d (kk H locs cells slots ls h1 h2 h3 h4 h5)
theorem g_ifnull_n (B : Fx g κ own cc nL ret lvl) {off : Int} {tgt : Nat} (d : decode cc pc = .ok (.ifnull off, 3)) (ht : (pc : Int) + off = (tgt : Int)) (kk : Go g κ tgt lv st L kc ks) : Go g κ pc lv (.null :: st) L kc ks := by
  obtain ⟨p, l, e, R, s, m, args, below, meth, c, A, mc, ms, Q⟩ := κ
  obtain ⟨⟨hx, hb, hml, hown, hts⟩, ⟨hr, hlk⟩, ⟨hst, hE, hA⟩, hR1, hR2, hR3, hR4⟩ := B
  intro H locs cells slots ls h1 h2 h3 h4 h5
  exact lv_ifnullN hx hb d ht (kk H locs cells slots ls h1 h2 h3 h4 h5)
theorem g_ifnonnull_r (B : Fx g κ own cc nL ret lvl) {a : Nat} {off : Int} {tgt : Nat} (d : decode cc pc = .ok (.ifnonnull off, 3)) (ht : (pc : Int) + off = (tgt : Int)) (kk : Go g κ tgt lv st L kc ks) : Go g κ pc lv (.ref a :: st) L kc ks := by
  obtain ⟨p, l, e, R, s, m, args, below, meth, c, A, mc, ms, Q⟩ := κ
  obtain ⟨⟨hx, hb, hml, hown, hts⟩, ⟨hr, hlk⟩, ⟨hst, hE, hA⟩, hR1, hR2, hR3, hR4⟩ := B
  intro H locs cells slots ls h1 h2 h3 h4 h5
  exact lv_ifnonnull hx hb d ht (kk H locs cells slots ls h1 h2 h3 h4 h5)
theorem g_ifnonnull_n (B : Fx g κ own cc nL ret lvl) {off : Int} (d : decode cc pc = .ok (.ifnonnull off, 3)) (hq : pc + 3 = q) (kk : Go g κ q lv st L kc ks) : Go g κ pc lv (.null :: st) L kc ks := by
  obtain ⟨p, l, e, R, s, m, args, below, meth, c, A, mc, ms, Q⟩ := κ
  obtain ⟨⟨hx, hb, hml, hown, hts⟩, ⟨hr, hlk⟩, ⟨hst, hE, hA⟩, hR1, hR2, hR3, hR4⟩ := B
  subst hq
  intro H locs cells slots ls h1 h2 h3 h4 h5
  exact lv_ifnonnullN hx hb d (kk H locs cells slots ls h1 h2 h3 h4 h5)
theorem g_ifnull_o (B : Fx g κ own cc nL ret lvl) {r : Option Nat} {off : Int} {tgt : Nat} (d : decode cc pc = .ok (.ifnull off, 3)) (hq : pc + 3 = q) (ht : (pc : Int) + off = (tgt : Int)) (kt : r = none → Go g κ tgt lv st L kc ks) (kf : ∀ a, r = some a → Go g κ q lv st L kc ks) : Go g κ pc lv (va_rf r :: st) L kc ks := by
  cases r with
  | none => exact g_ifnull_n B d ht (kt rfl)
  | some a => exact g_ifnull_r B d hq (kf a rfl)
theorem g_ifnonnull_o (B : Fx g κ own cc nL ret lvl) {r : Option Nat} {off : Int} {tgt : Nat} (d : decode cc pc = .ok (.ifnonnull off, 3)) (hq : pc + 3 = q) (ht : (pc : Int) + off = (tgt : Int)) (kt : ∀ a, r = some a → Go g κ tgt lv st L kc ks) (kf : r = none → Go g κ q lv st L kc ks) : Go g κ pc lv (va_rf r :: st) L kc ks := by
  cases r with
  | none => exact g_ifnonnull_n B d hq (kf rfl)
  | some a => exact g_ifnonnull_r B d ht (kt a rfl)
theorem g_iret {post : Option Value → List va_W → Prop} {xp : String → List va_W → Prop} (B : Fx g κ own cc nL (some .int) lvl) (E : Nd g κ post xp) {v : Int32} (d : decode cc pc = .ok (.ireturn, 1)) (hp : post (some (.int v)) L) : Go g κ pc lv [.int v] L kc ks := by
  obtain ⟨p, l, e, R, s, m, args, below, meth, c, A, mc, ms, Q⟩ := κ
  obtain ⟨⟨hx, hb, hml, hown, hts⟩, ⟨hr, hlk⟩, ⟨hst, hE, hA⟩, hR1, hR2, hR3, hR4⟩ := B
  have E : Q = _ := E
  subst E
  intro H locs cells slots ls h1 h2 h3 h4 h5
  refine vx_ret (W.widen (k := mc) (n := ms) (by omega) (by omega) ?_)
  exact W.iret (v := v) hx hb hr (fun t ht _ => ⟨_, L, rfl, hp, by rw [ht]; exact h4, h5.F ht⟩) h5.2.2 d hlk
theorem g_lret {post : Option Value → List va_W → Prop} {xp : String → List va_W → Prop} (B : Fx g κ own cc nL (some .long) lvl) (E : Nd g κ post xp) {v : Int64} (d : decode cc pc = .ok (.lreturn, 1)) (hp : post (some (.long v)) L) : Go g κ pc lv [.long v] L kc ks := by
  obtain ⟨p, l, e, R, s, m, args, below, meth, c, A, mc, ms, Q⟩ := κ
  obtain ⟨⟨hx, hb, hml, hown, hts⟩, ⟨hr, hlk⟩, ⟨hst, hE, hA⟩, hR1, hR2, hR3, hR4⟩ := B
  have E : Q = _ := E
  subst E
  intro H locs cells slots ls h1 h2 h3 h4 h5
  refine vx_ret (W.widen (k := mc) (n := ms) (by omega) (by omega) ?_)
  exact W.lret (v := v) hx hb hr (fun t ht _ => ⟨_, L, rfl, hp, by rw [ht]; exact h4, h5.F ht⟩) h5.2.2 d hlk
theorem g_fret {post : Option Value → List va_W → Prop} {xp : String → List va_W → Prop} (B : Fx g κ own cc nL (some .float) lvl) (E : Nd g κ post xp) {v : UInt32} (d : decode cc pc = .ok (.freturn, 1)) (hp : post (some (.float v)) L) : Go g κ pc lv [.float v] L kc ks := by
  obtain ⟨p, l, e, R, s, m, args, below, meth, c, A, mc, ms, Q⟩ := κ
  obtain ⟨⟨hx, hb, hml, hown, hts⟩, ⟨hr, hlk⟩, ⟨hst, hE, hA⟩, hR1, hR2, hR3, hR4⟩ := B
  have E : Q = _ := E
  subst E
  intro H locs cells slots ls h1 h2 h3 h4 h5
  refine vx_ret (W.widen (k := mc) (n := ms) (by omega) (by omega) ?_)
  exact W.fret (v := v) hx hb hr (fun t ht _ => ⟨_, L, rfl, hp, by rw [ht]; exact h4, h5.F ht⟩) h5.2.2 d hlk
theorem g_dret {post : Option Value → List va_W → Prop} {xp : String → List va_W → Prop} (B : Fx g κ own cc nL (some .double) lvl) (E : Nd g κ post xp) {v : UInt64} (d : decode cc pc = .ok (.dreturn, 1)) (hp : post (some (.double v)) L) : Go g κ pc lv [.double v] L kc ks := by
  obtain ⟨p, l, e, R, s, m, args, below, meth, c, A, mc, ms, Q⟩ := κ
  obtain ⟨⟨hx, hb, hml, hown, hts⟩, ⟨hr, hlk⟩, ⟨hst, hE, hA⟩, hR1, hR2, hR3, hR4⟩ := B
  have E : Q = _ := E
  subst E
  intro H locs cells slots ls h1 h2 h3 h4 h5
  refine vx_ret (W.widen (k := mc) (n := ms) (by omega) (by omega) ?_)
  exact W.dret (v := v) hx hb hr (fun t ht _ => ⟨_, L, rfl, hp, by rw [ht]; exact h4, h5.F ht⟩) h5.2.2 d hlk
theorem g_zret {post : Option Value → List va_W → Prop} {xp : String → List va_W → Prop} {ty : FieldType} (B : Fx g κ own cc nL (some ty) lvl) (E : Nd g κ post xp) {v : Int32} (d : decode cc pc = .ok (.ireturn, 1)) (hn : narrow ty (.int v) = .int v) (hp : post (some (.int v)) L) : Go g κ pc lv [.int v] L kc ks := by
  obtain ⟨p, l, e, R, s, m, args, below, meth, c, A, mc, ms, Q⟩ := κ
  obtain ⟨⟨hx, hb, hml, hown, hts⟩, ⟨hr, hlk⟩, ⟨hst, hE, hA⟩, hR1, hR2, hR3, hR4⟩ := B
  have E : Q = _ := E
  subst E
  intro H locs cells slots ls h1 h2 h3 h4 h5
  refine vx_ret (W.widen (k := mc) (n := ms) (by omega) (by omega) ?_)
  exact W.zret (v := v) hx hb hr hn (fun t ht _ => ⟨_, L, rfl, hp, by rw [ht]; exact h4, h5.F ht⟩) h5.2.2 d hlk
theorem g_vret {post : Option Value → List va_W → Prop} {xp : String → List va_W → Prop} (B : Fx g κ own cc nL none lvl) (E : Nd g κ post xp) (d : decode cc pc = .ok (.return_, 1)) (hp : post none L) : Go g κ pc lv [] L kc ks := by
  obtain ⟨p, l, e, R, s, m, args, below, meth, c, A, mc, ms, Q⟩ := κ
  obtain ⟨⟨hx, hb, hml, hown, hts⟩, ⟨hr, hlk⟩, ⟨hst, hE, hA⟩, hR1, hR2, hR3, hR4⟩ := B
  have E : Q = _ := E
  subst E
  intro H locs cells slots ls h1 h2 h3 h4 h5
  refine vx_ret (W.widen (k := mc) (n := ms) (by omega) (by omega) ?_)
  exact W.vret hx hb hr (fun t ht _ => ⟨_, L, rfl, hp, by rw [ht]; exact h4, h5.F ht⟩) h5.2.2 d hlk
theorem g_aret {post : Option Value → List va_W → Prop} {xp : String → List va_W → Prop} {rt : FieldType} (B : Fx g κ own cc nL (some rt) lvl) (E : Nd g κ post xp) {v : Value} (d : decode cc pc = .ok (.areturn, 1)) (hrt : (∃ n, rt = .object n) ∨ ∃ t, rt = .array t) (hv : isRv v) (hp : post (some v) L) : Go g κ pc lv [v] L kc ks := by
  obtain ⟨p, l, e, R, s, m, args, below, meth, c, A, mc, ms, Q⟩ := κ
  obtain ⟨⟨hx, hb, hml, hown, hts⟩, ⟨hr, hlk⟩, ⟨hst, hE, hA⟩, hR1, hR2, hR3, hR4⟩ := B
  have E : Q = _ := E
  subst E
  intro H locs cells slots ls h1 h2 h3 h4 h5
  refine vx_ret (W.widen (k := mc) (n := ms) (by omega) (by omega) ?_)
  exact W.aret (v := v) hx hb hr hrt hv (fun t ht _ => ⟨_, L, rfl, hp, by rw [ht]; exact h4, h5.F ht⟩) h5.2.2 d hlk
theorem g_wd {L2 : List va_W} (h : L.flatten = L2.flatten) (kk : Go g κ pc lv st L2 kc ks) : Go g κ pc lv st L kc ks := by
  obtain ⟨p, l, e, R, s, m, args, below, meth, c, A, mc, ms, Q⟩ := κ
  intro H locs cells slots ls h1 h2 h3 h4 h5
  exact kk H locs cells slots ls h1 h2 h3 (h4.eq h) h5
/-- chunks in another order, some dropped -/
theorem g_pk {Lc Lr L2 : List va_W} (is : List Nat) (h : xt L is = (Lc, Lr)) (h2 : Lc = L2) (kk : Go g κ pc lv st L2 kc ks) : Go g κ pc lv st L kc ks := by
  obtain ⟨p, l, e, R, s, m, args, below, meth, c, A, mc, ms, Q⟩ := κ
  subst h2
  intro H locs cells slots ls h1 h2 h3 h4 h5
  exact kk H locs cells slots ls h1 h2 h3 (h4.xt h).left h5
/-- a chunk that is made of chunks is opened: they go to the end -/
theorem g_open {Lr Ls L2 : List va_W} {w : va_W} (k : Nat) (h : xt L [k] = ([w], Lr)) (hw : w = Ls.flatten) (h2 : Lr ++ Ls = L2) (kk : Go g κ pc lv st L2 kc ks) : Go g κ pc lv st L kc ks := by
  obtain ⟨p, l, e, R, s, m, args, below, meth, c, A, mc, ms, Q⟩ := κ
  subst h2
  intro H locs cells slots ls h1 h2 h3 h4 h5
  refine kk H locs cells slots ls h1 h2 h3 (h4.to (R := []) ?_) h5
  have h6 := xt_fl h
  rw [List.append_nil, List.flatten_append]
  refine h6.trans ?_
  rw [hw, List.flatten_cons, List.flatten_nil, List.append_nil]
  exact List.perm_append_comm
/-- chunks are closed into one: it goes to the end -/
theorem g_close {Lc Lr L2 : List va_W} {w : va_W} (is : List Nat) (h : xt L is = (Lc, Lr)) (hw : w = Lc.flatten) (h2 : Lr ++ [w] = L2) (kk : Go g κ pc lv st L2 kc ks) : Go g κ pc lv st L kc ks := by
  obtain ⟨p, l, e, R, s, m, args, below, meth, c, A, mc, ms, Q⟩ := κ
  subst h2
  intro H locs cells slots ls h1 h2 h3 h4 h5
  refine kk H locs cells slots ls h1 h2 h3 (h4.to (R := []) ?_) h5
  have h6 := xt_fl h
  rw [List.append_nil, List.flatten_append, hw]
  refine h6.trans ?_
  rw [List.flatten_cons, List.flatten_nil, List.append_nil]
  exact List.perm_append_comm
theorem g_room {kc2 ks2 : Nat} (h : kc2 ≤ kc) (h0 : ks2 ≤ ks) (kk : Go g κ pc lv st L kc2 ks2) : Go g κ pc lv st L kc ks := by
  obtain ⟨p, l, e, R, s, m, args, below, meth, c, A, mc, ms, Q⟩ := κ
  intro H locs cells slots ls h1 h2 h3 h4 h5
  exact kk H locs cells slots ls h1 (by omega) (by omega) h4 h5
/-- two cells of a world are not one -/
theorem g_ne {a b : Nat} {ea eb : va_E} {La Lb Lr : List va_W} {wa wb : va_W} (i j : Nat) (h : xt L [i, j] = ([wa, wb], Lr)) (ha : (a, ea) ∈ wa) (hb : (b, eb) ∈ wb) (kk : a ≠ b → Go g κ pc lv st L kc ks) : Go g κ pc lv st L kc ks := by
  obtain ⟨p, l, e, R, s, m, args, below, meth, c, A, mc, ms, Q⟩ := κ
  intro H locs cells slots ls h1 h2 h3 h4 h5
  refine kk (fun hab => ?_) H locs cells slots ls h1 h2 h3 h4 h5
  have h6 := (cd_iff.mp (h4.xt h).left.2).1
  rw [List.flatten_cons, List.flatten_cons, List.map_append, List.nodup_append] at h6
  refine h6.2.2 a (List.mem_map.mpr ⟨_, ha, rfl⟩) b ?_ hab
  rw [List.map_append]
  exact List.mem_append_left _ (List.mem_map.mpr ⟨_, hb, rfl⟩)
theorem g_get (B : Fx g κ own cc nL ret lvl) {C ref : String} {T : u_T} {N ci index k j : Nat} {a : Nat} {fs : List Value} {v : Value} (hin : ∀ w ∈ u_ws C T N, w ∈ lw_all) (hc : gCL[ci]? = some (C, T, N)) (d : decode cc pc = .ok (.getfield index, 3)) (hq : pc + 3 = q) (hL : L[k]? = some [(a, .inr (ci, fs))]) (hj : j < N) (hl : Cond.fieldLink own index ref (T j).2.1 (T j).2.2.1 ∈ lw_all) (hs : (T j).1 = ref) (hv : fs[j]? = some v) (kk : Go g κ q lv (v :: st) L kc ks) : Go g κ pc lv (.ref a :: st) L kc ks := by
  obtain ⟨p, l, e, R, s, m, args, below, meth, c, A, mc, ms, Q⟩ := κ
  obtain ⟨⟨hx, hb, hml, hown, hts⟩, ⟨hr, hlk⟩, ⟨hst, hE, hA⟩, hR1, hR2, hR3, hR4⟩ := B
  subst hq
  intro H locs cells slots ls h1 h2 h3 h4 h5
  obtain ⟨i, hi, -⟩ := fl_at hL
  exact va_get hx hb hts hin hown hE.1 h4.1 i hi hc j hj (hts _ hl) (fun x h => by rw [← hs]; exact h) hv d (kk H locs cells slots ls h1 h2 h3 h4 h5)
theorem g_getS (B : Fx g κ own cc nL ret lvl) {C ref : String} {T : u_T} {N ci index k j : Nat} {a : Nat} {fs : List Value} {v : Value} (hin : ∀ w ∈ u_ws C T N, w ∈ lw_all) (hc : gCL[ci]? = some (C, T, N)) (d : decode cc pc = .ok (.getfield index, 3)) (hq : pc + 3 = q) (hL : L[k]? = some [(a, .inr (ci, fs))]) (hj : j < N) (hl : Cond.fieldLink own index ref (T j).2.1 (T j).2.2.1 ∈ lw_all) (hs : Cond.sameField ref (T j).1 (T j).2.1 (T j).2.2.1 ∈ lw_all) (hv : fs[j]? = some v) (kk : Go g κ q lv (v :: st) L kc ks) : Go g κ pc lv (.ref a :: st) L kc ks := by
  obtain ⟨p, l, e, R, s, m, args, below, meth, c, A, mc, ms, Q⟩ := κ
  obtain ⟨⟨hx, hb, hml, hown, hts⟩, ⟨hr, hlk⟩, ⟨hst, hE, hA⟩, hR1, hR2, hR3, hR4⟩ := B
  subst hq
  intro H locs cells slots ls h1 h2 h3 h4 h5
  obtain ⟨i, hi, -⟩ := fl_at hL
  exact va_get hx hb hts hin hown hE.1 h4.1 i hi hc j hj (hts _ hl) (fun x h => u_same (hts _ hs) x h) hv d (kk H locs cells slots ls h1 h2 h3 h4 h5)
theorem g_getN (B : Fx g κ own cc nL ret lvl) {C ref : String} {T : u_T} {N ci index k j : Nat} {a : Nat} {fs : List Value} {host : String} {v : Value} (hin : ∀ w ∈ u_ws C T N, w ∈ lw_all) (hc : gCL[ci]? = some (C, T, N)) (d : decode cc pc = .ok (.getfield index, 3)) (hq : pc + 3 = q) (hL : L[k]? = some [(a, .inr (ci, fs))]) (hj : j < N) (hl : Cond.fieldLinkNest own index ref (T j).2.1 (T j).2.2.1 host ∈ lw_tbl) (hs : (T j).1 = ref) (hv : fs[j]? = some v) (kk : Go g κ q lv (v :: st) L kc ks) : Go g κ pc lv (.ref a :: st) L kc ks := by
  obtain ⟨p, l, e, R, s, m, args, below, meth, c, A, mc, ms, Q⟩ := κ
  obtain ⟨⟨hx, hb, hml, hown, hts⟩, ⟨hr, hlk⟩, ⟨hst, hE, hA⟩, hR1, hR2, hR3, hR4⟩ := B
  subst hq
  intro H locs cells slots ls h1 h2 h3 h4 h5
  obtain ⟨i, hi, -⟩ := fl_at hL
  exact va_getN hx hb hts hin hown hE.1 h4.1 i hi hc j hj (va_Nw.use rfl (hE.2.1.1 _ hl rfl)) (fun x h => by rw [← hs]; exact h) hv d (kk H locs cells slots ls h1 h2 h3 h4 h5)
theorem g_put (B : Fx g κ own cc nL ret lvl) {C ref : String} {T : u_T} {N ci index k j : Nat} {a : Nat} {fs : List Value} {v : Value} {L2 : List va_W} (hin : ∀ w ∈ u_ws C T N, w ∈ lw_all) (ty0 : Nat → FieldType) (hty : ∀ k, k < N → parseFieldDescriptor (T k).2.2.1 = some (ty0 k)) (hnm : ∀ a, a < N → ∀ b, b < N → a ≠ b → (T a).2.1 ≠ (T b).2.1) (hc : gCL[ci]? = some (C, T, N)) (d : decode cc pc = .ok (.putfield index, 3)) (hq : pc + 3 = q) (hL : L[k]? = some [(a, .inr (ci, fs))]) (hj : j < N) (hl : Cond.fieldLink own index ref (T j).2.1 (T j).2.2.1 ∈ lw_all) (hs : (T j).1 = ref) (hfin : (T j).2.2.2 = false) (hnr : narrow (ty0 j) v = v) (hfit : fits (ty0 j) v = true) (hlen : j < fs.length) (hL2 : L.set k [(a, .inr (ci, fs.set j v))] = L2) (kk : Go g κ q lv st L2 kc ks) : Go g κ pc lv (v :: .ref a :: st) L kc ks := by
  obtain ⟨p, l, e, R, s, m, args, below, meth, c, A, mc, ms, Q⟩ := κ
  obtain ⟨⟨hx, hb, hml, hown, hts⟩, ⟨hr, hlk⟩, ⟨hst, hE, hA⟩, hR1, hR2, hR3, hR4⟩ := B
  subst hq
  intro H locs cells slots ls h1 h2 h3 h4 h5
  obtain ⟨i, hi, hi2⟩ := fl_at hL
  exact va_put hx hb hts hin ty0 hty hnm hown hE.1 h4.1 h4.2 h5 i hi hc j hj (hts _ hl) (fun x h => by rw [← hs]; exact h) hfin (hty j hj) hnr hfit hlen d (fun H1 locs1 w1 w2 w3 => kk H1 locs1 cells slots ls h1 h2 h3 ⟨by rw [← hL2, ← hi2]; exact w1, by rw [← hL2, ← hi2]; exact w2⟩ w3)
def Ini (κ : Kx) : Prop := match κ with
  | (p, l, e, R, s, m, args, below, meth, c, A, mc, ms, Q) => meth.name = "<init>"
theorem g_putF (B : Fx g κ own cc nL ret lvl) {C ref : String} {T : u_T} {N ci index k j : Nat} {a : Nat} {fs : List Value} {v : Value} {L2 : List va_W} (hin : ∀ w ∈ u_ws C T N, w ∈ lw_all) (ty0 : Nat → FieldType) (hty : ∀ k, k < N → parseFieldDescriptor (T k).2.2.1 = some (ty0 k)) (hnm : ∀ a, a < N → ∀ b, b < N → a ≠ b → (T a).2.1 ≠ (T b).2.1) (hc : gCL[ci]? = some (C, T, N)) (d : decode cc pc = .ok (.putfield index, 3)) (hq : pc + 3 = q) (hL : L[k]? = some [(a, .inr (ci, fs))]) (hj : j < N) (hl : Cond.fieldLink own index ref (T j).2.1 (T j).2.2.1 ∈ lw_all) (hs : (T j).1 = ref) (hfin : (T j).2.2.2 = true) (hin2 : Ini κ) (hdecl : (T j).1 = own) (hnr : narrow (ty0 j) v = v) (hfit : fits (ty0 j) v = true) (hlen : j < fs.length) (hL2 : L.set k [(a, .inr (ci, fs.set j v))] = L2) (kk : Go g κ q lv st L2 kc ks) : Go g κ pc lv (v :: .ref a :: st) L kc ks := by
  obtain ⟨p, l, e, R, s, m, args, below, meth, c, A, mc, ms, Q⟩ := κ
  obtain ⟨⟨hx, hb, hml, hown, hts⟩, ⟨hr, hlk⟩, ⟨hst, hE, hA⟩, hR1, hR2, hR3, hR4⟩ := B
  subst hq
  intro H locs cells slots ls h1 h2 h3 h4 h5
  obtain ⟨i, hi, hi2⟩ := fl_at hL
  exact va_putF hx hb hts hin ty0 hty hnm hown hE.1 h4.1 h4.2 h5 i hi hc j hj (hts _ hl) (fun x h => by rw [← hs]; exact h) hfin hin2 hdecl (hty j hj) hnr hfit hlen d (fun H1 locs1 w1 w2 w3 => kk H1 locs1 cells slots ls h1 h2 h3 ⟨by rw [← hL2, ← hi2]; exact w1, by rw [← hL2, ← hi2]; exact w2⟩ w3)
theorem g_putN (B : Fx g κ own cc nL ret lvl) {C ref : String} {T : u_T} {N ci index k j : Nat} {a : Nat} {fs : List Value} {host : String} {v : Value} {L2 : List va_W} (hin : ∀ w ∈ u_ws C T N, w ∈ lw_all) (ty0 : Nat → FieldType) (hty : ∀ k, k < N → parseFieldDescriptor (T k).2.2.1 = some (ty0 k)) (hnm : ∀ a, a < N → ∀ b, b < N → a ≠ b → (T a).2.1 ≠ (T b).2.1) (hc : gCL[ci]? = some (C, T, N)) (d : decode cc pc = .ok (.putfield index, 3)) (hq : pc + 3 = q) (hL : L[k]? = some [(a, .inr (ci, fs))]) (hj : j < N) (hl : Cond.fieldLinkNest own index ref (T j).2.1 (T j).2.2.1 host ∈ lw_tbl) (hs : (T j).1 = ref) (hfin : (T j).2.2.2 = false) (hnr : narrow (ty0 j) v = v) (hfit : fits (ty0 j) v = true) (hlen : j < fs.length) (hL2 : L.set k [(a, .inr (ci, fs.set j v))] = L2) (kk : Go g κ q lv st L2 kc ks) : Go g κ pc lv (v :: .ref a :: st) L kc ks := by
  obtain ⟨p, l, e, R, s, m, args, below, meth, c, A, mc, ms, Q⟩ := κ
  obtain ⟨⟨hx, hb, hml, hown, hts⟩, ⟨hr, hlk⟩, ⟨hst, hE, hA⟩, hR1, hR2, hR3, hR4⟩ := B
  subst hq
  intro H locs cells slots ls h1 h2 h3 h4 h5
  obtain ⟨i, hi, hi2⟩ := fl_at hL
  exact va_putN hx hb hts hin ty0 hty hnm hown hE.1 h4.1 h4.2 h5 i hi hc j hj (va_Nw.use rfl (hE.2.1.1 _ hl rfl)) (fun x h => by rw [← hs]; exact h) hfin (hty j hj) hnr hfit hlen d (fun H1 locs1 w1 w2 w3 => kk H1 locs1 cells slots ls h1 h2 h3 ⟨by rw [← hL2, ← hi2]; exact w1, by rw [← hL2, ← hi2]; exact w2⟩ w3)
theorem g_iald (B : Fx g κ own cc nL ret lvl) {k a n : Nat} {f : Nat → Int32} {i : Int32} {v : Int32} (d : decode cc pc = .ok (.iaload, 1)) (hq : pc + 1 = q) (hL : L[k]? = some [(a, .inl (g.2.1 0, n, .inl f))]) (hi : vp_in i n) (hv : f i.toNatClampNeg = v) (kk : Go g κ q lv (.int v :: st) L kc ks) : Go g κ pc lv (.int i :: .ref a :: st) L kc ks := by
  obtain ⟨p, l, e, R, s, m, args, below, meth, c, A, mc, ms, Q⟩ := κ
  obtain ⟨⟨hx, hb, hml, hown, hts⟩, ⟨hr, hlk⟩, ⟨hst, hE, hA⟩, hR1, hR2, hR3, hR4⟩ := B
  subst hq; subst hv
  intro H locs cells slots ls h1 h2 h3 h4 h5
  obtain ⟨j, hj, -⟩ := fl_at hL
  exact va_iald hx hb hE.1 h4.1 j 0 hj rfl hi d (kk H locs cells slots ls h1 h2 h3 h4 h5)
theorem g_bald (B : Fx g κ own cc nL ret lvl) {k a n : Nat} {f : Nat → Int32} {i : Int32} {v : Int32} (d : decode cc pc = .ok (.baload, 1)) (hq : pc + 1 = q) (hL : L[k]? = some [(a, .inl (g.2.1 2, n, .inl f))]) (hi : vp_in i n) (hv : f i.toNatClampNeg = v) (kk : Go g κ q lv (.int v :: st) L kc ks) : Go g κ pc lv (.int i :: .ref a :: st) L kc ks := by
  obtain ⟨p, l, e, R, s, m, args, below, meth, c, A, mc, ms, Q⟩ := κ
  obtain ⟨⟨hx, hb, hml, hown, hts⟩, ⟨hr, hlk⟩, ⟨hst, hE, hA⟩, hR1, hR2, hR3, hR4⟩ := B
  subst hq; subst hv
  intro H locs cells slots ls h1 h2 h3 h4 h5
  obtain ⟨j, hj, -⟩ := fl_at hL
  exact va_bald hx hb hE.1 h4.1 j 2 hj rfl hi d (kk H locs cells slots ls h1 h2 h3 h4 h5)
theorem g_zald (B : Fx g κ own cc nL ret lvl) {k a n : Nat} {f : Nat → Int32} {i : Int32} {v : Int32} (d : decode cc pc = .ok (.baload, 1)) (hq : pc + 1 = q) (hL : L[k]? = some [(a, .inl (g.2.1 4, n, .inl f))]) (hi : vp_in i n) (hv : f i.toNatClampNeg = v) (kk : Go g κ q lv (.int v :: st) L kc ks) : Go g κ pc lv (.int i :: .ref a :: st) L kc ks := by
  obtain ⟨p, l, e, R, s, m, args, below, meth, c, A, mc, ms, Q⟩ := κ
  obtain ⟨⟨hx, hb, hml, hown, hts⟩, ⟨hr, hlk⟩, ⟨hst, hE, hA⟩, hR1, hR2, hR3, hR4⟩ := B
  subst hq; subst hv
  intro H locs cells slots ls h1 h2 h3 h4 h5
  obtain ⟨j, hj, -⟩ := fl_at hL
  exact va_zald hx hb hE.1 h4.1 j 4 hj rfl hi d (kk H locs cells slots ls h1 h2 h3 h4 h5)
theorem g_lald (B : Fx g κ own cc nL ret lvl) {k a n : Nat} {f : Nat → Int64} {i : Int32} {v : Int64} (d : decode cc pc = .ok (.laload, 1)) (hq : pc + 1 = q) (hL : L[k]? = some [(a, .inl (g.2.1 3, n, .inr (.inl f)))]) (hi : vp_in i n) (hv : f i.toNatClampNeg = v) (kk : Go g κ q lv (.long v :: st) L kc ks) : Go g κ pc lv (.int i :: .ref a :: st) L kc ks := by
  obtain ⟨p, l, e, R, s, m, args, below, meth, c, A, mc, ms, Q⟩ := κ
  obtain ⟨⟨hx, hb, hml, hown, hts⟩, ⟨hr, hlk⟩, ⟨hst, hE, hA⟩, hR1, hR2, hR3, hR4⟩ := B
  subst hq; subst hv
  intro H locs cells slots ls h1 h2 h3 h4 h5
  obtain ⟨j, hj, -⟩ := fl_at hL
  exact va_lald hx hb hE.1 h4.1 j 3 hj rfl hi d (kk H locs cells slots ls h1 h2 h3 h4 h5)
theorem g_dald (B : Fx g κ own cc nL ret lvl) {k a n : Nat} {f : Nat → UInt64} {i : Int32} {v : UInt64} (d : decode cc pc = .ok (.daload, 1)) (hq : pc + 1 = q) (hL : L[k]? = some [(a, .inl (g.2.1 7, n, .inr (.inr (.inr (.inl f)))))]) (hi : vp_in i n) (hv : f i.toNatClampNeg = v) (kk : Go g κ q lv (.double v :: st) L kc ks) : Go g κ pc lv (.int i :: .ref a :: st) L kc ks := by
  obtain ⟨p, l, e, R, s, m, args, below, meth, c, A, mc, ms, Q⟩ := κ
  obtain ⟨⟨hx, hb, hml, hown, hts⟩, ⟨hr, hlk⟩, ⟨hst, hE, hA⟩, hR1, hR2, hR3, hR4⟩ := B
  subst hq; subst hv
  intro H locs cells slots ls h1 h2 h3 h4 h5
  obtain ⟨j, hj, -⟩ := fl_at hL
  exact va_dald hx hb hE.1 h4.1 j 7 hj rfl hi d (kk H locs cells slots ls h1 h2 h3 h4 h5)
theorem g_iast (B : Fx g κ own cc nL ret lvl) {k a n : Nat} {f : Nat → Int32} {i : Int32} {x : Int32} {L2 : List va_W} (d : decode cc pc = .ok (.iastore, 1)) (hq : pc + 1 = q) (hL : L[k]? = some [(a, .inl (g.2.1 0, n, .inl f))]) (hi : vp_in i n) (hL2 : L.set k [(a, .inl (g.2.1 0, n, .inl (upd f i.toNatClampNeg x)))] = L2) (kk : Go g κ q lv st L2 kc ks) : Go g κ pc lv (.int x :: .int i :: .ref a :: st) L kc ks := by
  obtain ⟨p, l, e, R, s, m, args, below, meth, c, A, mc, ms, Q⟩ := κ
  obtain ⟨⟨hx, hb, hml, hown, hts⟩, ⟨hr, hlk⟩, ⟨hst, hE, hA⟩, hR1, hR2, hR3, hR4⟩ := B
  subst hq
  intro H locs cells slots ls h1 h2 h3 h4 h5
  obtain ⟨j, hj, hi2⟩ := fl_at hL
  exact va_iast hx hb hE.1 h4.1 h4.2 h5 j 0 hj rfl hi d (fun H1 locs1 w1 w2 w3 => kk H1 locs1 cells slots ls h1 h2 h3 ⟨by rw [← hL2, ← hi2]; exact w1, by rw [← hL2, ← hi2]; exact w2⟩ w3)
theorem g_bast (B : Fx g κ own cc nL ret lvl) {k a n : Nat} {f : Nat → Int32} {i : Int32} {x : Int32} {L2 : List va_W} (d : decode cc pc = .ok (.bastore, 1)) (hq : pc + 1 = q) (hL : L[k]? = some [(a, .inl (g.2.1 2, n, .inl f))]) (hi : vp_in i n) (hL2 : L.set k [(a, .inl (g.2.1 2, n, .inl (upd f i.toNatClampNeg (vp_nar .byte x))))] = L2) (kk : Go g κ q lv st L2 kc ks) : Go g κ pc lv (.int x :: .int i :: .ref a :: st) L kc ks := by
  obtain ⟨p, l, e, R, s, m, args, below, meth, c, A, mc, ms, Q⟩ := κ
  obtain ⟨⟨hx, hb, hml, hown, hts⟩, ⟨hr, hlk⟩, ⟨hst, hE, hA⟩, hR1, hR2, hR3, hR4⟩ := B
  subst hq
  intro H locs cells slots ls h1 h2 h3 h4 h5
  obtain ⟨j, hj, hi2⟩ := fl_at hL
  exact va_bast hx hb hE.1 h4.1 h4.2 h5 j 2 hj rfl hi d (fun H1 locs1 w1 w2 w3 => kk H1 locs1 cells slots ls h1 h2 h3 ⟨by rw [← hL2, ← hi2]; exact w1, by rw [← hL2, ← hi2]; exact w2⟩ w3)
theorem g_zast (B : Fx g κ own cc nL ret lvl) {k a n : Nat} {f : Nat → Int32} {i : Int32} {x : Int32} {L2 : List va_W} (d : decode cc pc = .ok (.bastore, 1)) (hq : pc + 1 = q) (hL : L[k]? = some [(a, .inl (g.2.1 4, n, .inl f))]) (hi : vp_in i n) (hL2 : L.set k [(a, .inl (g.2.1 4, n, .inl (upd f i.toNatClampNeg (vp_nar .boolean x))))] = L2) (kk : Go g κ q lv st L2 kc ks) : Go g κ pc lv (.int x :: .int i :: .ref a :: st) L kc ks := by
  obtain ⟨p, l, e, R, s, m, args, below, meth, c, A, mc, ms, Q⟩ := κ
  obtain ⟨⟨hx, hb, hml, hown, hts⟩, ⟨hr, hlk⟩, ⟨hst, hE, hA⟩, hR1, hR2, hR3, hR4⟩ := B
  subst hq
  intro H locs cells slots ls h1 h2 h3 h4 h5
  obtain ⟨j, hj, hi2⟩ := fl_at hL
  exact va_zast hx hb hE.1 h4.1 h4.2 h5 j 4 hj rfl hi d (fun H1 locs1 w1 w2 w3 => kk H1 locs1 cells slots ls h1 h2 h3 ⟨by rw [← hL2, ← hi2]; exact w1, by rw [← hL2, ← hi2]; exact w2⟩ w3)
theorem g_last (B : Fx g κ own cc nL ret lvl) {k a n : Nat} {f : Nat → Int64} {i : Int32} {x : Int64} {L2 : List va_W} (d : decode cc pc = .ok (.lastore, 1)) (hq : pc + 1 = q) (hL : L[k]? = some [(a, .inl (g.2.1 3, n, .inr (.inl f)))]) (hi : vp_in i n) (hL2 : L.set k [(a, .inl (g.2.1 3, n, .inr (.inl (vp_updL f i.toNatClampNeg x))))] = L2) (kk : Go g κ q lv st L2 kc ks) : Go g κ pc lv (.long x :: .int i :: .ref a :: st) L kc ks := by
  obtain ⟨p, l, e, R, s, m, args, below, meth, c, A, mc, ms, Q⟩ := κ
  obtain ⟨⟨hx, hb, hml, hown, hts⟩, ⟨hr, hlk⟩, ⟨hst, hE, hA⟩, hR1, hR2, hR3, hR4⟩ := B
  subst hq
  intro H locs cells slots ls h1 h2 h3 h4 h5
  obtain ⟨j, hj, hi2⟩ := fl_at hL
  exact va_last hx hb hE.1 h4.1 h4.2 h5 j 3 hj rfl hi d (fun H1 locs1 w1 w2 w3 => kk H1 locs1 cells slots ls h1 h2 h3 ⟨by rw [← hL2, ← hi2]; exact w1, by rw [← hL2, ← hi2]; exact w2⟩ w3)
theorem g_dast (B : Fx g κ own cc nL ret lvl) {k a n : Nat} {f : Nat → UInt64} {i : Int32} {x : UInt64} {L2 : List va_W} (d : decode cc pc = .ok (.dastore, 1)) (hq : pc + 1 = q) (hL : L[k]? = some [(a, .inl (g.2.1 7, n, .inr (.inr (.inr (.inl f)))))]) (hi : vp_in i n) (hL2 : L.set k [(a, .inl (g.2.1 7, n, .inr (.inr (.inr (.inl (vf_upd f i.toNatClampNeg x))))))] = L2) (kk : Go g κ q lv st L2 kc ks) : Go g κ pc lv (.double x :: .int i :: .ref a :: st) L kc ks := by
  obtain ⟨p, l, e, R, s, m, args, below, meth, c, A, mc, ms, Q⟩ := κ
  obtain ⟨⟨hx, hb, hml, hown, hts⟩, ⟨hr, hlk⟩, ⟨hst, hE, hA⟩, hR1, hR2, hR3, hR4⟩ := B
  subst hq
  intro H locs cells slots ls h1 h2 h3 h4 h5
  obtain ⟨j, hj, hi2⟩ := fl_at hL
  exact va_dast hx hb hE.1 h4.1 h4.2 h5 j 7 hj rfl hi d (fun H1 locs1 w1 w2 w3 => kk H1 locs1 cells slots ls h1 h2 h3 ⟨by rw [← hL2, ← hi2]; exact w1, by rw [← hL2, ← hi2]; exact w2⟩ w3)
theorem g_alen (B : Fx g κ own cc nL ret lvl) {k a t : Nat} {x : vp_A} {v : Int32} {ty : FieldType} (d : decode cc pc = .ok (.arraylength, 1)) (hq : pc + 1 = q) (hL : L[k]? = some [(a, .inl (g.2.1 t, x))]) (ht : (gTY g)[t]? = some (g.2.1 t, ty)) (hv : Int32.ofNat x.1 = v) (kk : Go g κ q lv (.int v :: st) L kc ks) : Go g κ pc lv (.ref a :: st) L kc ks := by
  obtain ⟨p, l, e, R, s, m, args, below, meth, c, A, mc, ms, Q⟩ := κ
  obtain ⟨⟨hx, hb, hml, hown, hts⟩, ⟨hr, hlk⟩, ⟨hst, hE, hA⟩, hR1, hR2, hR3, hR4⟩ := B
  subst hq
  intro H locs cells slots ls h1 h2 h3 h4 h5
  obtain ⟨j, hj, -⟩ := fl_at hL
  exact va_alen hx hb hE.1 h4.1 j t hj ht hv d (kk H locs cells slots ls h1 h2 h3 h4 h5)
theorem g_ald (B : Fx g κ own cc nL ret lvl) {k a n t : Nat} {C : String} {f : Nat → Option Nat} {i : Int32} {r : Option Nat} (d : decode cc pc = .ok (.aaload, 1)) (hq : pc + 1 = q) (hL : L[k]? = some [(a, .inl (g.2.1 t, n, .inr (.inr (.inr (.inr f)))))]) (ht : (gTY g)[t]? = some (g.2.1 t, .object C)) (hi : vp_in i n) (hv : f i.toNatClampNeg = r) (kk : Go g κ q lv (va_rf r :: st) L kc ks) : Go g κ pc lv (.int i :: .ref a :: st) L kc ks := by
  obtain ⟨p, l, e, R, s, m, args, below, meth, c, A, mc, ms, Q⟩ := κ
  obtain ⟨⟨hx, hb, hml, hown, hts⟩, ⟨hr, hlk⟩, ⟨hst, hE, hA⟩, hR1, hR2, hR3, hR4⟩ := B
  subst hq; subst hv
  intro H locs cells slots ls h1 h2 h3 h4 h5
  obtain ⟨j, hj, -⟩ := fl_at hL
  exact va_aldq hx hb hE.1 h4.1 j t hj ht hi d (kk H locs cells slots ls h1 h2 h3 h4 h5)
theorem g_astN (B : Fx g κ own cc nL ret lvl) {k a n t : Nat} {C : String} {f : Nat → Option Nat} {i : Int32} {L2 : List va_W} (d : decode cc pc = .ok (.aastore, 1)) (hq : pc + 1 = q) (hL : L[k]? = some [(a, .inl (g.2.1 t, n, .inr (.inr (.inr (.inr f)))))]) (ht : (gTY g)[t]? = some (g.2.1 t, .object C)) (hi : vp_in i n) (hL2 : L.set k [(a, .inl (g.2.1 t, n, .inr (.inr (.inr (.inr (va_up f i.toNatClampNeg none))))))] = L2) (kk : Go g κ q lv st L2 kc ks) : Go g κ pc lv (.null :: .int i :: .ref a :: st) L kc ks := by
  obtain ⟨p, l, e, R, s, m, args, below, meth, c, A, mc, ms, Q⟩ := κ
  obtain ⟨⟨hx, hb, hml, hown, hts⟩, ⟨hr, hlk⟩, ⟨hst, hE, hA⟩, hR1, hR2, hR3, hR4⟩ := B
  subst hq
  intro H locs cells slots ls h1 h2 h3 h4 h5
  obtain ⟨j, hj, hi2⟩ := fl_at hL
  exact va_astqN hx hb hE.1 h4.1 h4.2 h5 j t hj ht hi d (fun H1 locs1 w1 w2 w3 => kk H1 locs1 cells slots ls h1 h2 h3 ⟨by rw [← hL2, ← hi2]; exact w1, by rw [← hL2, ← hi2]; exact w2⟩ w3)
end
