set_option maxRecDepth 100000
/-- whole numbers in statics -/
def gZs : List (String × String × String × Int32) := [("java/lang/Integer$IntegerCache", "high", "I", 127), ("java/lang/String", "COMPACT_STRINGS", "Z", 1), ("java/util/BitSet", "$assertionsDisabled", "Z", 1), ("java/util/HashMap$TreeNode", "$assertionsDisabled", "Z", 1)]
/-- what is known of the heap outside: ArrayList's empty array, the small Integers, digits, two texts, two classes' mirrors, Throwable's statics -/
def Jd (g : Gv) : Prop :=
  (Has g (va_Z "java/util/ArrayList" "DEFAULTCAPACITY_EMPTY_ELEMENTDATA" "[Ljava/lang/Object;" (.ref (gA g 0))) ∧ Has g (va_T (.object "java/lang/Object") (gA g 0) 0 (fun _ => .null))) ∧
  (Has g (va_Z "java/lang/Integer$IntegerCache" "cache" "[Ljava/lang/Integer;" (.ref (gA g 1))) ∧ Has g (va_T (.object "java/lang/Integer") (gA g 1) 256 (fun k => .ref (gA g (1000 + k)))) ∧ Has g (vb_C (fun k => gA g (1000 + k)))) ∧
  (∀ q ∈ gZs, Has g (va_Z q.1 q.2.1 q.2.2.1 (.int q.2.2.2))) ∧
  (Has g (va_Z "java/lang/Integer" "DigitOnes" "[B" (.ref (gA g 2))) ∧ Has g (va_T .byte (gA g 2) 100 (fun k => .int (nI (48 + k % 10)))) ∧ Has g (va_Z "java/lang/Integer" "DigitTens" "[B" (.ref (gA g 3))) ∧ Has g (va_T .byte (gA g 3) 100 (fun k => .int (nI (48 + k / 10))))) ∧
  (Has g (fun _ U _ => va_Mi "java/lang/String" (gA g 4) U) ∧ Has g (fun _ U _ => va_Mi "[Ljava/lang/Object;" (gA g 5) U)) ∧
  (Has g (fun _ U _ => vk_R "Keygrove$Book" 69 "," (gA g 6) U) ∧ Has g (va_O "java/lang/String" (gA g 6)) ∧ Has g (va_OF "java/lang/String" "coder" "B" (.int 0) (gA g 6)) ∧ Has g (va_OF "java/lang/String" "value" "[B" (.ref (gA g 7)) (gA g 6)) ∧ Has g (va_T .byte (gA g 7) 1 (fun _ => .int 44))) ∧
  (Has g (fun _ U _ => vk_R "Keygrove" 468 "elp" (gA g 8) U) ∧ Has g (fun _ U _ => vk_R "KeygroveModel" 392 "elp" (gA g 8) U) ∧ Has g (va_O "java/lang/String" (gA g 8)) ∧ Has g (va_OF "java/lang/String" "coder" "B" (.int 0) (gA g 8)) ∧ Has g (va_OF "java/lang/String" "value" "[B" (.ref (gA g 9)) (gA g 8)) ∧ Has g (va_T .byte (gA g 9) 3 (fun k => .int (if k = 0 then 101 else if k = 1 then 108 else 112)))) ∧
  (Has g (vx_Zq Bundle.tN "UNASSIGNED_STACK" Bundle.steD) ∧ Has g (vx_Zq Bundle.tN "SUPPRESSED_SENTINEL" Bundle.listD))
section
variable {g : Gv} {κ : Kx} {own : String} {cc : ByteArray} {nL : Nat} {ret : Option FieldType} {lvl : Nat} {pc q : Nat} {lv : List (Option Value)} {st : List Value} {L : List va_W} {kc ks : Nat}
theorem g_tlen (B : Fx g κ own cc nL ret lvl) {ty : FieldType} {t N : Nat} {f : Nat → Value} {v : Int32} (hT : Has g (va_T ty t N f)) (d : decode cc pc = .ok (.arraylength, 1)) (hq : pc + 1 = q) (hv : Int32.ofNat N = v) (kk : Go g κ q lv (.int v :: st) L kc ks) : Go g κ pc lv (.ref t :: st) L kc ks := by
  obtain ⟨p, l, e, R, s, m, args, below, meth, c, A, mc, ms, Q⟩ := κ
  obtain ⟨⟨hx, hb, hml, hown, hts⟩, ⟨-, hlk⟩, ⟨hst, hE, hA⟩, hR1, hR2, hR3, hR4⟩ := B
  subst hq
  intro H locs cells slots ls h1 h2 h3 h4 h5
  exact va_tlen hx hb (hT _ _ _ hE.2.2.1) h5 hv d (kk H locs cells slots ls h1 h2 h3 h4 h5)
theorem g_tb (B : Fx g κ own cc nL ret lvl) {t N : Nat} {f : Nat → Value} {v : Value} {i : Int32} (hT : Has g (va_T .byte t N f)) (d : decode cc pc = .ok (.baload, 1)) (hq : pc + 1 = q) (hi : vp_in i N) (hv : f i.toNatClampNeg = v) (kk : Go g κ q lv (v :: st) L kc ks) : Go g κ pc lv (.int i :: .ref t :: st) L kc ks := by
  obtain ⟨p, l, e, R, s, m, args, below, meth, c, A, mc, ms, Q⟩ := κ
  obtain ⟨⟨hx, hb, hml, hown, hts⟩, ⟨-, hlk⟩, ⟨hst, hE, hA⟩, hR1, hR2, hR3, hR4⟩ := B
  subst hq
  intro H locs cells slots ls h1 h2 h3 h4 h5
  exact va_tb hx hb (hT _ _ _ hE.2.2.1) h5 hi hv d (kk H locs cells slots ls h1 h2 h3 h4 h5)
theorem rc_O (B : Fx g κ own cc nL ret lvl) {E : String} {t : Nat} (hO : Has g (va_O E t)) : Rec g κ L t E := by
  obtain ⟨p, l, e, R, s, m, args, below, meth, c, A, mc, ms, Q⟩ := κ
  obtain ⟨-, -, ⟨-, hE, -⟩, -⟩ := B
  intro H locs h4 h5
  obtain ⟨cell, c1, c2, c3, c4⟩ := hO _ _ _ hE.2.2.1
  have hlt : t < s.heap.size := (Array.getElem?_eq_some_iff.mp c1).1
  exact ⟨cell, by rw [h5.2.1 t hlt c4]; exact c1, c2, c3⟩
theorem g_getO (B : Fx g κ own cc nL ret lvl) {o n d0 : String} {t index : Nat} {v : Value} (hO : Has g (va_OF o n d0 v t)) (d : decode cc pc = .ok (.getfield index, 3)) (hq : pc + 3 = q) (hl : Cond.fieldLink own index o n d0 ∈ lw_all) (kk : Go g κ q lv (v :: st) L kc ks) : Go g κ pc lv (.ref t :: st) L kc ks := by
  obtain ⟨p, l, e, R, s, m, args, below, meth, c, A, mc, ms, Q⟩ := κ
  obtain ⟨⟨hx, hb, hml, hown, hts⟩, ⟨-, hlk⟩, ⟨hst, hE, hA⟩, hR1, hR2, hR3, hR4⟩ := B
  subst hq
  intro H locs cells slots ls h1 h2 h3 h4 h5
  exact vk_getf hx hb (hO _ _ _ hE.2.2.1) h5 hown (hts _ hl) (fun _ h => h) d (kk H locs cells slots ls h1 h2 h3 h4 h5)
theorem g_ldcS (B : Fx g κ own cc nL ret lvl) {tx : String} {index t : Nat} (hR : Has g (fun _ U _ => vk_R own index tx t U)) (d : decode cc pc = .ok (.ldc index, 2)) (hq : pc + 2 = q) (kk : Go g κ q lv (.ref t :: st) L kc ks) : Go g κ pc lv st L kc ks := by
  obtain ⟨p, l, e, R, s, m, args, below, meth, c, A, mc, ms, Q⟩ := κ
  obtain ⟨⟨hx, hb, hml, hown, hts⟩, ⟨-, hlk⟩, ⟨hst, hE, hA⟩, hR1, hR2, hR3, hR4⟩ := B
  subst hq
  intro H locs cells slots ls h1 h2 h3 h4 h5
  exact va_ldcS hx hb hown (hR _ _ _ hE.2.2.1) d (kk H locs cells slots ls h1 h2 h3 h4 h5)
theorem g_ldcM (B : Fx g κ own cc nL ret lvl) {C : String} {index t : Nat} (hM : Has g (fun _ U _ => va_Mi C t U)) (d : decode cc pc = .ok (.ldc index, 2)) (hq : pc + 2 = q) (hl : Cond.classLink own index C ∈ lw_all) (kk : Go g κ q lv (.ref t :: st) L kc ks) : Go g κ pc lv st L kc ks := by
  obtain ⟨p, l, e, R, s, m, args, below, meth, c, A, mc, ms, Q⟩ := κ
  obtain ⟨⟨hx, hb, hml, hown, hts⟩, ⟨-, hlk⟩, ⟨hst, hE, hA⟩, hR1, hR2, hR3, hR4⟩ := B
  subst hq
  intro H locs cells slots ls h1 h2 h3 h4 h5
  exact va_ldcM hx hb hown (hts _ hl) (hM _ _ _ hE.2.2.1) d (kk H locs cells slots ls h1 h2 h3 h4 h5)
/-- getClass -/
theorem g_getC (B : Fx g κ own cc nL ret lvl) {C : String} {index t a : Nat} (hM : Has g (fun _ U _ => va_Mi C t U)) (hr : Rec g κ L a C) (d : decode cc pc = .ok (.invokevirtual index, 3)) (hq : pc + 3 = q) (hlen : lv.length = nL) (h8 : (st.map fun v => v.category).sum ≤ 8) (q1 : Cond.methodLink own index ⟨"java/lang/Object", "getClass", "()Ljava/lang/Class;"⟩ ∈ lw_all) (q2 : Cond.declares ⟨"java/lang/Object", "getClass", "()Ljava/lang/Class;"⟩ ∈ lw_tbl) (q3 : Cond.selects C ⟨"java/lang/Object", "getClass", "()Ljava/lang/Class;"⟩ ⟨"java/lang/Object", "getClass", "()Ljava/lang/Class;"⟩ ∈ lw_all) (q4 : Cond.instanceMethod ⟨"java/lang/Object", "getClass", "()Ljava/lang/Class;"⟩ ∈ lw_all) (q5 : Cond.native ⟨"java/lang/Object", "getClass", "()Ljava/lang/Class;"⟩ ∈ lw_all) (kk : Go g κ q lv (.ref t :: st) L kc ks) : Go g κ pc lv (.ref a :: st) L kc ks := by
  obtain ⟨p, l, e, R, s, m, args, below, meth, c, A, mc, ms, Q⟩ := κ
  obtain ⟨⟨hx, hb, hml, hown, hts⟩, ⟨-, hlk⟩, ⟨hst, hE, hA⟩, hR1, hR2, hR3, hR4⟩ := B
  subst hq
  intro H locs cells slots ls h1 h2 h3 h4 h5
  exact va_getC hx hb (by rw [hml, h1.1, hlen]) hown (hts _ q1) (va_Nw.use rfl (hE.2.1.1 _ q2 rfl)) (hts _ q3) (hts _ q4) (hts _ q5) (hM _ _ _ hE.2.2.1) (hr H locs h4 h5) (by omega) (by omega) d (kk H locs cells slots ls h1 h2 h3 h4 h5)
theorem rc_arr (B : Fx g κ own cc nL ret lvl) {E nm : String} {k b t : Nat} {x : vp_A} (hL : L[k]? = some [(b, .inl (g.2.1 t, x))]) (ht : (gTY g)[t]? = some (g.2.1 t, .object E)) (hnm : nm = "[" ++ (FieldType.object E).toString) : Rec g κ L b nm := by
  obtain ⟨p, l, e, R, s, m, args, below, meth, c, A, mc, ms, Q⟩ := κ
  obtain ⟨-, -, ⟨-, hE, -⟩, -⟩ := B
  intro H locs h4 h5
  obtain ⟨i, hi, -⟩ := fl_at hL
  obtain ⟨kA, comp, e1, e2, e3, e4⟩ := (hE.1.2 t _ ht).2
  have hc : H[b]? = some (vp_cell (g.2.1 t) x) := h4.1 i _ hi
  refine ⟨_, hc, ?_, ?_⟩
  · obtain ⟨n, y⟩ := x
    rcases y with y | y | y | y | y <;> rfl
  · rw [hnm, e4]
    obtain ⟨n, y⟩ := x
    rcases y with y | y | y | y | y <;> rfl
end
