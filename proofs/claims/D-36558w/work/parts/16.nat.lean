set_option maxRecDepth 100000
section
variable {g : Gv} {κ : Kx} {own : String} {cc : ByteArray} {nL : Nat} {ret : Option FieldType} {lvl : Nat} {pc q : Nat} {lv : List (Option Value)} {st : List Value} {L : List va_W} {kc ks : Nat}
/-! System.arraycopy -/
def CpW (own : String) (index : Nat) : Prop := Cond.methodLink own index arraycopyName ∈ lw_all ∧ Cond.native arraycopyName ∈ lw_all ∧ Cond.static arraycopyName ∈ lw_all ∧ Cond.initialized "java/lang/System" ∈ lw_all
theorem cp_room {R : Room} {v : List Value} (h : (v.map fun v => v.category).sum ≤ 8) (h2 : 64 * (lvl + 1) ≤ R.locals) : (v.map fun v => v.category).sum + (nativeFrameWords "java/lang/System" "arraycopy" 5 + 11) ≤ R.locals := by
  have : nativeFrameWords "java/lang/System" "arraycopy" 5 = 7 := by decide
  omega
theorem g_copyM (B : Fx g κ own cc nL ret lvl) {k0 k1 a0 a n0 n1 t0 t1 index : Nat} {f h : Nat → Option Nat} {E0 E1 : String} {sp dp n : Int32} {L2 : List va_W} (hw : CpW own index) (hL0 : L[k0]? = some [(a0, .inl (g.2.1 t0, n0, .inr (.inr (.inr (.inr f)))))]) (hL1 : L[k1]? = some [(a, .inl (g.2.1 t1, n1, .inr (.inr (.inr (.inr h)))))]) (ht0 : (gTY g)[t0]? = some (g.2.1 t0, .object E0)) (ht1 : (gTY g)[t1]? = some (g.2.1 t1, .object E1)) (h1 : ¬ sp < 0) (h2 : ¬ dp < 0) (h3 : ¬ n < 0) (h4 : sp.toNatClampNeg + n.toNatClampNeg ≤ n0) (h5 : dp.toNatClampNeg + n.toNatClampNeg ≤ n1) (hel : ∀ i : Nat, i < n.toNatClampNeg → ∀ y : Nat, f (sp.toNatClampNeg + i) = some y → ∃ C, Rec g κ L y C ∧ As g C E1)
    (d : decode cc pc = .ok (.invokestatic index, 3)) (hq : pc + 3 = q) (hlen : lv.length = nL) (h8 : (st.map fun v => v.category).sum ≤ 8) (hL2 : L.set k1 [(a, .inl (g.2.1 t1, n1, .inr (.inr (.inr (.inr (va_cpy f h sp.toNatClampNeg dp.toNatClampNeg n.toNatClampNeg))))))] = L2) (kk : Go g κ q lv st L2 kc ks) : Go g κ pc lv (.int n :: .int dp :: .ref a :: .int sp :: .ref a0 :: st) L kc ks := by
  obtain ⟨p, l, e, R, s, m, args, below, meth, c, A, mc, ms, Q⟩ := κ
  obtain ⟨⟨hx, hb, hml, hown, hts⟩, ⟨-, hlk⟩, ⟨hst, hE, hA⟩, hR1, hR2, hR3, hR4⟩ := B
  obtain ⟨w1, w2, w3, w4⟩ := hw
  subst hq
  intro H locs cells slots ls z1 z2 z3 z4 z5
  obtain ⟨j0, hj0, -⟩ := fl_at hL0
  obtain ⟨j1, hj1, hi2⟩ := fl_at hL1
  refine va_copyM hx hb (by rw [hml, z1.1, hlen]) hown (hts _ w1) (hts _ w2) (hts _ w3) (hts _ w4) hE.1 z4.1 z4.2 z5 j0 j1 t0 t1 hj0 hj1 ht0 ht1 h1 h2 h3 h4 h5 (fun i hi y hy => ?_) (by omega) (cp_room h8 hR2) d (fun H1 locs1 w1 w2 w3 => kk H1 locs1 cells slots ls z1 z2 z3 ⟨by rw [← hL2, ← hi2]; exact w1, by rw [← hL2, ← hi2]; exact w2⟩ w3)
  obtain ⟨C, hr, ha⟩ := hel i hi y hy
  obtain ⟨cell, c1, c2, c3⟩ := hr H locs z4 z5
  obtain ⟨k9, h9, -⟩ := Vm.findClass_spec c3
  exact ⟨cell, c1, c2, ⟨k9, h9⟩, fun comp hcomp => ha A s s.heap hE comp _ hcomp c3⟩
/-- bytes -/
theorem g_copyB (B : Fx g κ own cc nL ret lvl) {k0 k1 a0 a n0 n1 index : Nat} {f h : Nat → Int32} {sp dp n : Int32} {L2 : List va_W} (hw : CpW own index) (hL0 : L[k0]? = some [(a0, .inl (g.2.1 2, n0, .inl f))]) (hL1 : L[k1]? = some [(a, .inl (g.2.1 2, n1, .inl h))]) (h1 : ¬ sp < 0) (h2 : ¬ dp < 0) (h3 : ¬ n < 0) (h4 : sp.toNatClampNeg + n.toNatClampNeg ≤ n0) (h5 : dp.toNatClampNeg + n.toNatClampNeg ≤ n1) (hfit : ∀ i, i < n.toNatClampNeg → fits .byte (.int (f (sp.toNatClampNeg + i))) = true)
    (d : decode cc pc = .ok (.invokestatic index, 3)) (hq : pc + 3 = q) (hlen : lv.length = nL) (h8 : (st.map fun v => v.category).sum ≤ 8) (hL2 : L.set k1 [(a, .inl (g.2.1 2, n1, .inl (va_cpy f h sp.toNatClampNeg dp.toNatClampNeg n.toNatClampNeg)))] = L2) (kk : Go g κ q lv st L2 kc ks) : Go g κ pc lv (.int n :: .int dp :: .ref a :: .int sp :: .ref a0 :: st) L kc ks := by
  obtain ⟨p, l, e, R, s, m, args, below, meth, c, A, mc, ms, Q⟩ := κ
  obtain ⟨⟨hx, hb, hml, hown, hts⟩, ⟨-, hlk⟩, ⟨hst, hE, hA⟩, hR1, hR2, hR3, hR4⟩ := B
  obtain ⟨w1, w2, w3, w4⟩ := hw
  subst hq
  intro H locs cells slots ls z1 z2 z3 z4 z5
  obtain ⟨j0, hj0, -⟩ := fl_at hL0
  obtain ⟨j1, hj1, hi2⟩ := fl_at hL1
  exact va_copyi hx hb (by rw [hml, z1.1, hlen]) hown (hts _ w1) (hts _ w2) (hts _ w3) (hts _ w4) hE.1 z4.1 z4.2 z5 j0 j1 2 2 hj0 hj1 rfl rfl rfl h1 h2 h3 h4 h5 hfit (by omega) (cp_room h8 hR2) d (fun H1 locs1 w1 w2 w3 => kk H1 locs1 cells slots ls z1 z2 z3 ⟨by rw [← hL2, ← hi2]; exact w1, by rw [← hL2, ← hi2]; exact w2⟩ w3)
/-- bytes of a text that lies outside -/
theorem g_copyT (B : Fx g κ own cc nL ret lvl) {k1 a0 a n0 n1 index : Nat} {f h : Nat → Int32} {sp dp n : Int32} {L2 : List va_W} (hw : CpW own index) (hT : Has g (va_T .byte a0 n0 (fun j => .int (f j)))) (hL1 : L[k1]? = some [(a, .inl (g.2.1 2, n1, .inl h))]) (h1 : ¬ sp < 0) (h2 : ¬ dp < 0) (h3 : ¬ n < 0) (h4 : sp.toNatClampNeg + n.toNatClampNeg ≤ n0) (h5 : dp.toNatClampNeg + n.toNatClampNeg ≤ n1) (hfit : ∀ i, i < n.toNatClampNeg → fits .byte (.int (f (sp.toNatClampNeg + i))) = true)
    (d : decode cc pc = .ok (.invokestatic index, 3)) (hq : pc + 3 = q) (hlen : lv.length = nL) (h8 : (st.map fun v => v.category).sum ≤ 8) (hL2 : L.set k1 [(a, .inl (g.2.1 2, n1, .inl (va_cpy f h sp.toNatClampNeg dp.toNatClampNeg n.toNatClampNeg)))] = L2) (kk : Go g κ q lv st L2 kc ks) : Go g κ pc lv (.int n :: .int dp :: .ref a :: .int sp :: .ref a0 :: st) L kc ks := by
  obtain ⟨p, l, e, R, s, m, args, below, meth, c, A, mc, ms, Q⟩ := κ
  obtain ⟨⟨hx, hb, hml, hown, hts⟩, ⟨-, hlk⟩, ⟨hst, hE, hA⟩, hR1, hR2, hR3, hR4⟩ := B
  obtain ⟨w1, w2, w3, w4⟩ := hw
  subst hq
  intro H locs cells slots ls z1 z2 z3 z4 z5
  obtain ⟨j1, hj1, hi2⟩ := fl_at hL1
  exact vk_copyt hx hb (by rw [hml, z1.1, hlen]) hown (hts _ w1) (hts _ w2) (hts _ w3) (hts _ w4) hE.1 z4.1 z4.2 z5 (hT _ _ _ hE.2.2.1) j1 2 hj1 rfl h1 h2 h3 h4 h5 hfit (by omega) (cp_room h8 hR2) d (fun H1 locs1 w1 w2 w3 => kk H1 locs1 cells slots ls z1 z2 z3 ⟨by rw [← hL2, ← hi2]; exact w1, by rw [← hL2, ← hi2]; exact w2⟩ w3)
/-- longs -/
theorem g_copyL (B : Fx g κ own cc nL ret lvl) {k0 k1 a0 a n0 n1 index : Nat} {f h : Nat → Int64} {sp dp n : Int32} {L2 : List va_W} (hw : CpW own index) (hL0 : L[k0]? = some [(a0, .inl (g.2.1 3, n0, .inr (.inl f)))]) (hL1 : L[k1]? = some [(a, .inl (g.2.1 3, n1, .inr (.inl h)))]) (h1 : ¬ sp < 0) (h2 : ¬ dp < 0) (h3 : ¬ n < 0) (h4 : sp.toNatClampNeg + n.toNatClampNeg ≤ n0) (h5 : dp.toNatClampNeg + n.toNatClampNeg ≤ n1)
    (d : decode cc pc = .ok (.invokestatic index, 3)) (hq : pc + 3 = q) (hlen : lv.length = nL) (h8 : (st.map fun v => v.category).sum ≤ 8) (hL2 : L.set k1 [(a, .inl (g.2.1 3, n1, .inr (.inl (va_cpy f h sp.toNatClampNeg dp.toNatClampNeg n.toNatClampNeg))))] = L2) (kk : Go g κ q lv st L2 kc ks) : Go g κ pc lv (.int n :: .int dp :: .ref a :: .int sp :: .ref a0 :: st) L kc ks := by
  obtain ⟨p, l, e, R, s, m, args, below, meth, c, A, mc, ms, Q⟩ := κ
  obtain ⟨⟨hx, hb, hml, hown, hts⟩, ⟨-, hlk⟩, ⟨hst, hE, hA⟩, hR1, hR2, hR3, hR4⟩ := B
  obtain ⟨w1, w2, w3, w4⟩ := hw
  subst hq
  intro H locs cells slots ls z1 z2 z3 z4 z5
  obtain ⟨j0, hj0, -⟩ := fl_at hL0
  obtain ⟨j1, hj1, hi2⟩ := fl_at hL1
  exact va_copyl hx hb (by rw [hml, z1.1, hlen]) hown (hts _ w1) (hts _ w2) (hts _ w3) (hts _ w4) hE.1 z4.1 z4.2 z5 j0 j1 3 3 hj0 hj1 rfl rfl rfl h1 h2 h3 h4 h5 (fun _ _ => rfl) (by omega) (cp_room h8 hR2) d (fun H1 locs1 w1 w2 w3 => kk H1 locs1 cells slots ls z1 z2 z3 ⟨by rw [← hL2, ← hi2]; exact w1, by rw [← hL2, ← hi2]; exact w2⟩ w3)
/-! throw new E() -/
def ThrowOk (own : String) (ik ic : Nat) (cls : String) (names : List String) : Prop := (Bundle.fit cls && names.all Bundle.fit && (Cond.classLink own ik cls :: Cond.initialized cls :: vx_at0 own ic cls names).all (fun w => vx_ot w && (goodWord w || nwk w) && lw_tbl.contains w)) = true
theorem g_throw0 {post : Option Value → List va_W → Prop} {xp : String → List va_W → Prop} (B : Fx g κ own cc nL ret lvl) (N : Nd g κ post xp) (tb : Tb κ []) (J : Jd g) {cls : String} {names : List String} {ik ic : Nat} (hok : ThrowOk own ik ic cls names) (d0 : decode cc pc = .ok (.new ik, 3)) (d3 : decode cc (pc + 3) = .ok (.dup, 1)) (d4 : decode cc (pc + 4) = .ok (.invokespecial ic, 3)) (d7 : decode cc (pc + 7) = .ok (.athrow, 1)) (hlen : lv.length = nL) (hlv : 8 ≤ lvl) (hnl : names.length ≤ 3) (h8 : (st.map fun v => v.category).sum ≤ 8) (hkc : 1 ≤ kc) (hks : 6 ≤ ks) (hp : xp cls L) : Go g κ pc lv st L kc ks := by
  obtain ⟨p, l, e, R, s, m, args, below, meth, c, A, mc, ms, Q⟩ := κ
  obtain ⟨⟨hx, hb, hml, hown, hts⟩, ⟨-, hlk⟩, ⟨hst, hE, hA⟩, hR1, hR2, hR3, hR4⟩ := B
  have N : Q = _ := N
  subst N
  have tb : c.exceptionTable.toList = [] := tb
  have hok : (Bundle.fit cls && names.all Bundle.fit && (Cond.classLink own ik cls :: Cond.initialized cls :: vx_at0 own ic cls names).all (fun w => vx_ot w && (goodWord w || nwk w) && lw_tbl.contains w)) = true := hok
  simp only [Bool.and_eq_true, List.all_eq_true, Bool.or_eq_true, List.contains_iff_mem] at hok
  obtain ⟨⟨o1, o2⟩, o3⟩ := hok
  have hw : ∀ w ∈ Cond.classLink own ik cls :: Cond.initialized cls :: vx_at0 own ic cls names, w.before args s = true := by
    intro w hw
    obtain ⟨⟨-, b⟩, cm⟩ := o3 w hw
    rcases b with b | b
    · exact hts w (List.mem_filter.mpr ⟨cm, b⟩)
    · have hn := hE.2.1.1 w cm b
      have : w.onTables = true := by
        cases w <;> first | rfl | (simp [nwk] at b)
      exact va_Nw.use this hn
  obtain ⟨-, -, -, -, -, -, -, jU, jN⟩ := J
  intro H locs cells slots ls h1 h2 h3 h4 h5
  refine vx_throw0 hx hb hst (names := names) hown o1 (fun n hn => o2 n hn) (hw _ List.mem_cons_self) (hw _ (List.mem_cons_of_mem _ List.mem_cons_self)) (fun w h => hw w (List.mem_cons_of_mem _ (List.mem_cons_of_mem _ h))) (fun w h => (o3 w h).1.1) (jU _ _ _ hE.2.2.1) (jN _ _ _ hE.2.2.1) h5 (by rw [hml, h1.1, hlen]) d0 d3 d4 d7 (by rw [tb]; intro x hx; cases hx) (by omega) (by omega) (by omega) (by omega) hlk (fun t ht hz hk => ⟨L, hp, ?_, ?_⟩) h5.2.2 (by omega) (by omega)
  · exact ⟨cp_of fun z hz' => (cp_mem h4.1 hz').kept (hk z.1 (cp_mem h4.1 hz').lt), h4.2⟩
  · exact ⟨Nat.le_trans h5.1 hz, fun z hz1 hz2 => by rw [hk z (Nat.lt_of_lt_of_le hz1 h5.1)]; exact h5.2.1 z hz1 hz2⟩
theorem lclr_o (r : Option Nat) : lclr (some (va_rf r)) = some (va_rf r) := by cases r <;> rfl
theorem g_mmax (B : Fx g κ own cc nL ret lvl) {index a b : Nat} (hl : Cond.methodLink own index Lib.Math.max.name ∈ lw_all) (d : decode cc pc = .ok (.invokestatic index, 3)) (hq : pc + 3 = q) (hlen : lv.length = nL) (h8 : (st.map fun v => v.category).sum ≤ 8) (ha : a < 2 ^ 31) (hb9 : b < 2 ^ 31) (kk : Go g κ q lv (.int (nI (max a b)) :: st) L kc ks) : Go g κ pc lv (.int (nI b) :: .int (nI a) :: st) L kc ks := by
  obtain ⟨p, l, e, R, s, m, args, below, meth, c, A, mc, ms, Q⟩ := κ
  obtain ⟨⟨hx, hb, hml, hown, hts⟩, ⟨-, hlk⟩, ⟨hst, hE, hA⟩, hR1, hR2, hR3, hR4⟩ := B
  subst hq
  intro H locs cells slots ls h1 h2 h3 h4 h5
  have e : (if nI a < nI b then nI b else nI a) = nI (max a b) := by
    by_cases h : a < b
    · rw [if_pos ((nI_ltI ha hb9).mpr h), Nat.max_eq_right (by omega)]
    · rw [if_neg (fun z => h ((nI_ltI ha hb9).mp z)), Nat.max_eq_left (by omega)]
  refine va_mmax hx hb (by rw [hml, h1.1, hlen]) hown (hts _ hl) (hts _ q441) (hts _ q93) (hts _ q442) (by omega) (by omega) (by omega) (by omega) d ?_
  rw [e]
  exact kk H locs cells slots ls h1 h2 h3 h4 h5
theorem g_mmin (B : Fx g κ own cc nL ret lvl) {index a b : Nat} (hl : Cond.methodLink own index Lib.Math.min.name ∈ lw_all) (d : decode cc pc = .ok (.invokestatic index, 3)) (hq : pc + 3 = q) (hlen : lv.length = nL) (h8 : (st.map fun v => v.category).sum ≤ 8) (ha : a < 2 ^ 31) (hb9 : b < 2 ^ 31) (kk : Go g κ q lv (.int (nI (min a b)) :: st) L kc ks) : Go g κ pc lv (.int (nI b) :: .int (nI a) :: st) L kc ks := by
  obtain ⟨p, l, e, R, s, m, args, below, meth, c, A, mc, ms, Q⟩ := κ
  obtain ⟨⟨hx, hb, hml, hown, hts⟩, ⟨-, hlk⟩, ⟨hst, hE, hA⟩, hR1, hR2, hR3, hR4⟩ := B
  subst hq
  intro H locs cells slots ls h1 h2 h3 h4 h5
  have e : (if nI a > nI b then nI b else nI a) = nI (min a b) := by
    by_cases h : b < a
    · rw [if_pos ((nI_ltI hb9 ha).mpr h), Nat.min_eq_right (by omega)]
    · rw [if_neg (fun z => h ((nI_ltI hb9 ha).mp z)), Nat.min_eq_left (by omega)]
  refine va_mmin hx hb (by rw [hml, h1.1, hlen]) hown (hts _ hl) (hts _ q459) (hts _ q93) (hts _ q460) (by omega) (by omega) (by omega) (by omega) d ?_
  rw [e]
  exact kk H locs cells slots ls h1 h2 h3 h4 h5
end
