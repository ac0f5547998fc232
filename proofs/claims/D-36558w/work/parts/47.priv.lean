set_option maxRecDepth 100000
theorem sel_sub {y : MethodName} {C : String} {s : State} {args : Array Value} {n : Nat} (hy : y.cls ≠ "java/lang/invoke/MethodHandle" ∧ y.cls ≠ "java/lang/invoke/VarHandle") (hins : (Cond.instantiable C n).before args s = true) (hpriv : (Cond.privateMethod y).before args s = true) (hinst : (Cond.instanceMethod y).before args s = true) {C2 : String} {x2 y2 : MethodName} (hs2 : (Cond.selects C2 x2 y2).before args s = true) (hc2 : y2.cls = y.cls) : (Cond.selects C y y).before args s = true := by
  obtain ⟨c, k, hc, hk, -, hniab, -, -⟩ := Cond.instantiable_spec hins
  obtain ⟨mk, methM, hnamed, hmethM, hno, hab⟩ := Cond.instanceMethod_spec hinst
  have hfound : s.methodFound? y.cls y.name y.desc = some mk := State.methodFound?_of_named hnamed hy
  have hsel : selectMethod {} s.vm c mk = .method mk := selectMethod_private hmethM (Cond.privateMethod_at hpriv mk methM hnamed hmethM)
  obtain ⟨c2, r2, m2, -, -, q3, -, kP, hkP, hkPi⟩ := Cond.selects_spec hs2
  have e2 := findClass_of_methodNamed q3
  rw [hc2, findClass_of_methodNamed hnamed] at e2
  rw [← Option.some.inj e2] at hkP
  simp only [Cond.before, Cond.holds, Cond.value, hc, hfound, hnamed, hsel, hkP]
  simp; exact hkPi
section
variable {g : Gv} {κ : Kx} {own : String} {cc : ByteArray} {nL : Nat} {ret : Option FieldType} {lvl : Nat} {pc q : Nat} {lv : List (Option Value)} {st : List Value} {L : List va_W} {kc ks : Nat}
theorem g_callP (B : Fx g κ own cc nL ret lvl) {y : MethodName} {bytes : ByteArray} {maxL lvl1 mc1 ms1 kc2 ks2 n index : Nat} {ret1 : Option FieldType} {is : List Nat} {Lc Lr : List va_W} {st0 : List Value} {post1 : Option Value → List va_W → Prop} {xp1 : String → List va_W → Prop} {x : MethodName} {C owner : String} {b : Nat} (As : List Value) (hM : Ct g y (ws_ y bytes maxL ret1) lvl1 mc1 ms1 (.ref b :: As) Lc post1 xp1) (d : decode cc pc = .ok (.invokevirtual index, 3)) (hq : pc + 3 = q) (hr : Rec g κ L b C) (hyx : y = ⟨owner, x.name, x.desc⟩) (ho : owner ≠ "java/lang/invoke/MethodHandle" ∧ owner ≠ "java/lang/invoke/VarHandle") (hxo : x.cls = owner) (q1 : Cond.methodLink own index x ∈ lw_all) (q2 : Cond.sameMethod x.cls owner x.name x.desc ∈ lw_all) {n0 : Nat} (q3 : Cond.instantiable C n0 ∈ lw_all) (q7 : Cond.privateMethod y ∈ lw_tbl) {C2 : String} {x2 y2 : MethodName} (q8 : Cond.selects C2 x2 y2 ∈ lw_all) (hq8 : y2.cls = y.cls) (q6 : Cond.instanceMethod y ∈ lw_all) (q4 : Cond.initialized y.cls ∈ lw_all) (q5 : Cond.code y bytes maxL ret1 ∈ lw_all) (hxt : xt L is = (Lc, Lr)) (hs : st0 = As.reverse ++ .ref b :: st) (hm : Mo x n) (hn : As.length = n) (hlen : lv.length = nL) (hlv : lvl1 + 1 ≤ lvl) (hmx : maxL ≤ 45) (hst8 : (st.map fun v => v.category).sum ≤ 8) (hk1 : kc2 + mc1 ≤ kc) (hk2 : ks2 + ms1 ≤ ks)
    (kx : ∀ (E : String) (L1 : List va_W), xp1 E L1 → Gx g κ E pc lv st (Lr ++ L1) kc2 ks2) (kn : ∀ (v : Option Value) (L1 : List va_W), post1 v L1 → Go g κ q lv (v.toList ++ st) (Lr ++ L1) kc2 ks2) : Go g κ pc lv st0 L kc ks := by
  obtain ⟨p, l, e, R, s, m, args, below, meth, c, A, mc, ms, Q⟩ := κ
  obtain ⟨⟨hx, hb, hml, hown, hts⟩, ⟨-, hlk⟩, ⟨hst, hE, hA⟩, hR1, hR2, hR3, hR4⟩ := B
  subst hq; subst hs
  intro H locs cells slots ls h1 h2 h3 h4 h5
  have h4 := h4.xt hxt
  have hpv : (Cond.privateMethod y).before args s = true := va_Nw.use rfl (hE.2.1.1 _ q7 rfl)
  have hyc : y.cls = owner := by rw [hyx]
  have hxy : x.cls = owner → x = y := fun h => by rw [hyx]; cases x; cases h; rfl
  have hsl : (Cond.selects C y y).before args s = true := sel_sub (by rw [hyc]; exact ho) (hts _ q3) hpv (hts _ q6) (hts _ q8) hq8
  have hts2 : ∀ w ∈ Cond.selects C y y :: lw_all, w.before args s = true := fun w hw => (List.mem_cons.mp hw).elim (fun e => by rw [e]; exact hsl) (hts w)
  have hxe := hxy hxo
  subst hxe
  have hG : GoodIn (Cond.selects C x x :: lw_all) (va_wsU own index C owner x x (ws_ x bytes maxL ret1)) := by
    intro w hw
    have hw : w ∈ [Cond.methodLink own index x, Cond.sameMethod x.cls owner x.name x.desc, Cond.selects C x x, Cond.instanceMethod x, Cond.initialized x.cls] ∨ w ∈ ws_ x bytes maxL ret1 := List.mem_append.mp hw
    rcases hw with hw | hw
    · simp only [List.mem_cons, List.not_mem_nil, or_false] at hw
      rcases hw with e | e | e | e | e
      · rw [e]; exact ⟨List.mem_cons_of_mem _ q1, (lw_self _ q1).2⟩
      · rw [e]; exact ⟨List.mem_cons_of_mem _ q2, (lw_self _ q2).2⟩
      · rw [e]; exact ⟨List.mem_cons_self, good_of_word rfl⟩
      · rw [e]; exact ⟨List.mem_cons_of_mem _ q6, (lw_self _ q6).2⟩
      · rw [e]; exact ⟨List.mem_cons_of_mem _ q4, (lw_self _ q4).2⟩
    · have z := lw_meth q5 w hw
      exact ⟨List.mem_cons_of_mem _ z.1, z.2⟩
  exact go_of_run hA h1 h2 h3 h4 h5 hk1 hk2 (vx_runU (As := As) (rest := st) ⟨hx, hb, hml, hown, hts2⟩ (hM l H.size hst) (va_cwU n hts2 hG rfl rfl rfl hyx ⟨ho.1, ho.2, hm.2.2⟩ ⟨by show lvl1 + 1 + 1 ≤ R.frames; omega, by show 8 + (maxL + 11) + 64 * (lvl1 + 1) ≤ R.locals; omega⟩) ⟨Pre.blind, hr H locs (h4.to (R := []) (by rw [List.append_nil]; exact (by rw [List.flatten_append]; exact (xt_fl hxt).symm))) h5, pre_of hE hA h4 h5⟩ rfl hn (by rw [h1.1, hlen]) rfl (lv_room hst8) d ⟨by omega, by omega⟩) kn kx
theorem g_callA (B : Fx g κ own cc nL ret lvl) {y : MethodName} {bytes : ByteArray} {maxL lvl1 mc1 ms1 kc2 ks2 n index : Nat} {ret1 : Option FieldType} {is : List Nat} {Lc Lr : List va_W} {st0 : List Value} {post1 : Option Value → List va_W → Prop} {xp1 : String → List va_W → Prop} {x : MethodName} {C owner : String} {b : Nat} (As : List Value) (hM : Ct g y (ws_ y bytes maxL ret1) lvl1 mc1 ms1 (.ref b :: As) Lc post1 xp1) (d : decode cc pc = .ok (.invokevirtual index, 3)) (hq : pc + 3 = q) (hr : Rec g κ L b C) (qz : Cond.declares ⟨owner, x.name, x.desc⟩ ∈ lw_tbl) (ho : owner ≠ "java/lang/invoke/MethodHandle" ∧ owner ≠ "java/lang/invoke/VarHandle") (q1 : Cond.methodLink own index x ∈ lw_all) (q2 : Cond.sameMethod x.cls owner x.name x.desc ∈ lw_all) (q3 : Cond.selects C x y ∈ lw_all) (q6 : Cond.instanceMethod y ∈ lw_all) (q4 : Cond.initialized y.cls ∈ lw_all) (q5 : Cond.code y bytes maxL ret1 ∈ lw_all) (hxt : xt L is = (Lc, Lr)) (hs : st0 = As.reverse ++ .ref b :: st) (hm : Mo x n) (hn : As.length = n) (hlen : lv.length = nL) (hlv : lvl1 + 1 ≤ lvl) (hmx : maxL ≤ 45) (hst8 : (st.map fun v => v.category).sum ≤ 8) (hk1 : kc2 + mc1 ≤ kc) (hk2 : ks2 + ms1 ≤ ks)
    (kx : ∀ (E : String) (L1 : List va_W), xp1 E L1 → Gx g κ E pc lv st (Lr ++ L1) kc2 ks2) (kn : ∀ (v : Option Value) (L1 : List va_W), post1 v L1 → Go g κ q lv (v.toList ++ st) (Lr ++ L1) kc2 ks2) : Go g κ pc lv st0 L kc ks := by
  obtain ⟨p, l, e, R, s, m, args, below, meth, c, A, mc, ms, Q⟩ := κ
  obtain ⟨⟨hx, hb, hml, hown, hts⟩, ⟨-, hlk⟩, ⟨hst, hE, hA⟩, hR1, hR2, hR3, hR4⟩ := B
  subst hq; subst hs
  intro H locs cells slots ls h1 h2 h3 h4 h5
  have h4 := h4.xt hxt
  exact go_of_run hA h1 h2 h3 h4 h5 hk1 hk2 (vx_runU (As := As) (rest := st) ⟨hx, hb, hml, hown, hts⟩ (hM l H.size hst) (va_cwA n hts (lw_app (fun w hw => by simp only [List.mem_cons, List.not_mem_nil, or_false] at hw; rcases hw with e | e | e | e | e <;> (rw [e]; assumption)) (lw_meth q5)) rfl rfl rfl (hE.2.1.1 _ qz rfl) ⟨ho.1, ho.2, hm.2.2⟩ ⟨by show lvl1 + 1 + 1 ≤ R.frames; omega, by show 8 + (maxL + 11) + 64 * (lvl1 + 1) ≤ R.locals; omega⟩) ⟨Pre.blind, hr H locs (h4.to (R := []) (by rw [List.append_nil]; exact (by rw [List.flatten_append]; exact (xt_fl hxt).symm))) h5, pre_of hE hA h4 h5⟩ rfl hn (by rw [h1.1, hlen]) rfl (lv_room hst8) d ⟨by omega, by omega⟩) kn kx
theorem g_castB (B : Fx g κ own cc nL ret lvl) {index k a : Nat} {x : vp_A} (d : decode cc pc = .ok (.checkcast index, 3)) (hq : pc + 3 = q) (hL : L[k]? = some [(a, .inl (g.2.1 2, x))]) (hl : Cond.classLink own index "[B" ∈ lw_all) (kk : Go g κ q lv (.ref a :: st) L kc ks) : Go g κ pc lv (.ref a :: st) L kc ks := by
  obtain ⟨p, l, e, R, s, m, args, below, meth, c, A, mc, ms, Q⟩ := κ
  obtain ⟨⟨hx, hb, hml, hown, hts⟩, ⟨hr, hlk⟩, ⟨hst, hE, hA⟩, hR1, hR2, hR3, hR4⟩ := B
  subst hq
  intro H locs cells slots ls h1 h2 h3 h4 h5
  obtain ⟨i, hi, -⟩ := fl_at hL
  exact va_castA hx hb hown (hts _ hl) h4.1 i hi (hE.1.2 2 _ rfl).2 d (kk H locs cells slots ls h1 h2 h3 h4 h5)
end
