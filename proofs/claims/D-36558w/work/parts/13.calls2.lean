set_option maxRecDepth 100000
section
variable {g : Gv} {κ : Kx} {own : String} {cc : ByteArray} {nL : Nat} {ret : Option FieldType} {lvl : Nat} {pc q : Nat} {lv : List (Option Value)} {st : List Value} {L : List va_W} {kc ks : Nat}
/-- at b lies a thing of the class C -/
def Rec (g : Gv) (κ : Kx) (L : List va_W) (b : Nat) (C : String) : Prop := match κ with
  | (p, l, e, R, s, m, args, below, meth, c, A, mc, ms, Q) => ∀ (H : Heap) (locs : List Loc), Wl g A L H → va_S A s.heap H locs → ∃ cell : Cell, H[b]? = some cell ∧ cell.vm.isStatics = false ∧ s.vm.findClass C = some cell.cls
theorem rc_in (B : Fx g κ own cc nL ret lvl) {C : String} {T : u_T} {N ci k b : Nat} {w : va_W} (hc : gCL[ci]? = some (C, T, N)) (hL : L[k]? = some w) (hm : ∃ fs, (b, .inr (ci, fs)) ∈ w) : Rec g κ L b C := by
  obtain ⟨p, l, e, R, s, m, args, below, meth, c, A, mc, ms, Q⟩ := κ
  obtain ⟨-, -, ⟨-, hE, -⟩, -⟩ := B
  intro H locs h4 h5
  obtain ⟨fs, hm⟩ := hm
  obtain ⟨i, hi⟩ := List.getElem?_of_mem (List.mem_flatten.mpr ⟨w, List.mem_of_getElem? hL, hm⟩)
  exact va_recv hE.1 h4.1 hc hi
theorem rc_at (B : Fx g κ own cc nL ret lvl) {C : String} {T : u_T} {N ci k b : Nat} {fs : List Value} (hc : gCL[ci]? = some (C, T, N)) (hL : L[k]? = some [(b, .inr (ci, fs))]) : Rec g κ L b C := rc_in B hc hL ⟨fs, List.mem_cons_self⟩
theorem g_castR (B : Fx g κ own cc nL ret lvl) {C nm : String} {index a : Nat} (hr : Rec g κ L a C) (d : decode cc pc = .ok (.checkcast index, 3)) (hq : pc + 3 = q) (hl : Cond.classLink own index nm ∈ lw_all) (hca : Cond.castable C nm ∈ lw_tbl) (kk : Go g κ q lv (.ref a :: st) L kc ks) : Go g κ pc lv (.ref a :: st) L kc ks := by
  obtain ⟨p, l, e, R, s, m, args, below, meth, c, A, mc, ms, Q⟩ := κ
  obtain ⟨⟨hx, hb, hml, hown, hts⟩, ⟨-, hlk⟩, ⟨hst, hE, hA⟩, hR1, hR2, hR3, hR4⟩ := B
  subst hq
  intro H locs cells slots ls h1 h2 h3 h4 h5
  exact va_castY hx hb hown (hts _ hl) (hE.2.1.1 _ hca rfl) (hr H locs h4 h5) d (kk H locs cells slots ls h1 h2 h3 h4 h5)
theorem g_castRS (B : Fx g κ own cc nL ret lvl) {C : String} {T : u_T} {N ci index a : Nat} (hc : gCL[ci]? = some (C, T, N)) (hr : Rec g κ L a C) (d : decode cc pc = .ok (.checkcast index, 3)) (hq : pc + 3 = q) (hl : Cond.classLink own index C ∈ lw_all) (kk : Go g κ q lv (.ref a :: st) L kc ks) : Go g κ pc lv (.ref a :: st) L kc ks := by
  obtain ⟨p, l, e, R, s, m, args, below, meth, c, A, mc, ms, Q⟩ := κ
  obtain ⟨⟨hx, hb, hml, hown, hts⟩, ⟨-, hlk⟩, ⟨hst, hE, hA⟩, hR1, hR2, hR3, hR4⟩ := B
  subst hq
  intro H locs cells slots ls h1 h2 h3 h4 h5
  exact va_castS hx hb hown (hts _ hl) ((hE.1.1 ci _ hc).2) (hr H locs h4 h5) d (kk H locs cells slots ls h1 h2 h3 h4 h5)
theorem g_instR (B : Fx g κ own cc nL ret lvl) {C nm : String} {index a : Nat} (hr : Rec g κ L a C) (d : decode cc pc = .ok (.instanceof index, 3)) (hq : pc + 3 = q) (hl : Cond.classLink own index nm ∈ lw_all) (hca : Cond.castable C nm ∈ lw_tbl) (kk : Go g κ q lv (.int 1 :: st) L kc ks) : Go g κ pc lv (.ref a :: st) L kc ks := by
  obtain ⟨p, l, e, R, s, m, args, below, meth, c, A, mc, ms, Q⟩ := κ
  obtain ⟨⟨hx, hb, hml, hown, hts⟩, ⟨-, hlk⟩, ⟨hst, hE, hA⟩, hR1, hR2, hR3, hR4⟩ := B
  subst hq
  intro H locs cells slots ls h1 h2 h3 h4 h5
  exact va_instY hx hb hown (hts _ hl) (hE.2.1.1 _ hca rfl) (hr H locs h4 h5) d (kk H locs cells slots ls h1 h2 h3 h4 h5)
theorem g_instRNo (B : Fx g κ own cc nL ret lvl) {C nm : String} {index a : Nat} (hr : Rec g κ L a C) (d : decode cc pc = .ok (.instanceof index, 3)) (hq : pc + 3 = q) (hl : Cond.classLink own index nm ∈ lw_all) (hca : Cond.not (.castable C nm) ∈ gNc) (kk : Go g κ q lv (.int 0 :: st) L kc ks) : Go g κ pc lv (.ref a :: st) L kc ks := by
  obtain ⟨p, l, e, R, s, m, args, below, meth, c, A, mc, ms, Q⟩ := κ
  obtain ⟨⟨hx, hb, hml, hown, hts⟩, ⟨-, hlk⟩, ⟨hst, hE, hA⟩, hR1, hR2, hR3, hR4⟩ := B
  subst hq
  intro H locs cells slots ls h1 h2 h3 h4 h5
  exact va_instNo hx hb hown (hts _ hl) (hE.2.1.2.2.2 _ _ hca) (hr H locs h4 h5) d (kk H locs cells slots ls h1 h2 h3 h4 h5)
/-- what a call asks of the callee's name -/
def Mo (y : MethodName) (n : Nat) : Prop := y.cls ≠ "java/lang/invoke/MethodHandle" ∧ y.cls ≠ "java/lang/invoke/VarHandle" ∧ (parseMethodDescriptor y.desc).map (fun d => d.parameters.length) = some n
theorem vaA_sub {A : Nat → Prop} {Lc Lr : List va_W} {H H0 : Heap} {locs : List Loc} (h4 : Wl g A (Lc ++ Lr) H) (h5 : va_S A H0 H locs) (hA : ∀ q, H0.size ≤ q → A q) : ∀ q, va_A Lc.flatten H.size q → A q := by
  intro q h
  rcases vaA_iff.mp h with ⟨e, he⟩ | he
  · exact (cd_iff.mp h4.left.2).2 (q, e) he
  · exact hA q (Nat.le_trans h5.1 he)
theorem pre_of {A : Nat → Prop} {s : State} {H : Heap} {locs : List Loc} {Lc Lr : List va_W} {As : List Value} (hE : Ev g A s s.heap) (hA : ∀ q, s.heap.size ≤ q → A q) (h4 : Wl g A (Lc ++ Lr) H) (h5 : va_S A s.heap H locs) : ∀ U : State, U.heap = H → s.WarmedH U.vm → Pre g As Lc H.size As.toArray U := by
  intro U hU hW
  refine ⟨rfl, by rw [hU], ?_, ?_⟩
  · refine Ev.go hE hW (fun a ha hn => ?_) (vaA_sub h4 h5 hA)
    rw [hU]
    exact h5.2.1 a ha hn
  · rw [hU]
    exact h4.left.any (fun _ _ _ => trivial)
theorem go_of_run {p : Program} {l : Launch} {e : Env} {R : Room} {s : State} {m : MethodId} {args : Array Value} {below : List Frame} {meth : Method} {c : Code} {A : Nat → Prop} {mc ms : Nat} {Q : State → Prop} {Lc Lr : List va_W} {mc1 ms1 kc2 ks2 : Nat} {post1 : Option Value → List va_W → Prop} {xp1 : String → List va_W → Prop} {a1 : Array Value} {rest st0 : List Value} {H : Heap} {locs : List Loc} {cells slots : Nat} {ls : Array Slot} (hA : ∀ q, s.heap.size ≤ q → A q) (h1 : lvs ls lv) (h2 : cells + kc ≤ mc) (h3 : slots + ks ≤ ms) (h4 : Wl g A (Lc ++ Lr) H) (h5 : va_S A s.heap H locs) (hk1 : kc2 + mc1 ≤ kc) (hk2 : ks2 + ms1 ≤ ks)
    (hr : vx_Run p l e R s m args below meth c H locs cells slots mc1 ms1 (F0 m pc ls st0) rest (Pn g (va_A Lc.flatten H.size) post1 a1) (Px g (va_A Lc.flatten H.size) xp1) (va_A Lc.flatten H.size))
    (kn : ∀ (v : Option Value) (L1 : List va_W), post1 v L1 → Go g (p, l, e, R, s, m, args, below, meth, c, A, mc, ms, Q) (pc + 3) lv (v.toList ++ rest) (Lr ++ L1) kc2 ks2)
    (kx : ∀ (E : String) (L1 : List va_W), xp1 E L1 → Gx g (p, l, e, R, s, m, args, below, meth, c, A, mc, ms, Q) E pc lv rest (Lr ++ L1) kc2 ks2) : W p l e R s m args below meth c H locs cells slots Q (F0 m pc ls st0) := by
  intro T hT X
  have hsub := vaA_sub h4 h5 hA
  rcases hr T hT X with ⟨v, st₀, t, T', Lo, h0, X', hL, e1, e2, ⟨v', L1, hv, hp, hW1, hF⟩, st⟩ | ⟨q, st₀, t, T', Lo, E, ce, h0, X', hL, e1, e2, ⟨L1, hp, hW1, hF⟩, hce, hcv, hcl, st⟩
  · cases hv
    obtain ⟨k1, k2, k3⟩ := vx_keep h0 e1 h5 (fun q _ h => hsub q h) hsub hL hF
    rw [← e1] at hW1
    obtain ⟨t2, b1, b2⟩ := kn v L1 hp T'.heap (locs ++ Lo) (cells + mc1) (slots + ms1) ls h1 (by omega) (by omega) (h4.join hsub k2 hW1) k3 T' rfl X'
    exact ⟨t2, st t2 b1, b2⟩
  · obtain ⟨k1, k2, k3⟩ := vx_keep h0 e1 h5 (fun q _ h => hsub q h) hsub hL hF
    rw [← e1] at hW1
    obtain ⟨t2, b1, b2⟩ := kx E L1 hp T'.heap (locs ++ Lo) (cells + mc1) (slots + ms1) ls q ce h1 (by omega) (by omega) (h4.join hsub k2 hW1) k3 (by rw [e1]; exact hce) hcv hcl T' rfl X'
    exact ⟨t2, st.trans b1, b2⟩
theorem go_of_run5 {p : Program} {l : Launch} {e : Env} {R : Room} {s : State} {m : MethodId} {args : Array Value} {below : List Frame} {meth : Method} {c : Code} {A : Nat → Prop} {mc ms : Nat} {Q : State → Prop} {Lc Lr : List va_W} {mc1 ms1 kc2 ks2 : Nat} {post1 : Option Value → List va_W → Prop} {xp1 : String → List va_W → Prop} {a1 : Array Value} {rest st0 : List Value} {H : Heap} {locs : List Loc} {cells slots : Nat} {ls : Array Slot} (hA : ∀ q, s.heap.size ≤ q → A q) (h1 : lvs ls lv) (h2 : cells + kc ≤ mc) (h3 : slots + ks ≤ ms) (h4 : Wl g A (Lc ++ Lr) H) (h5 : va_S A s.heap H locs) (hk1 : kc2 + mc1 ≤ kc) (hk2 : ks2 + ms1 ≤ ks)
    (hr : vx_Run5 p l e R s m args below meth c H locs cells slots mc1 ms1 (F0 m pc ls st0) rest (Pn g (va_A Lc.flatten H.size) post1 a1) (Px g (va_A Lc.flatten H.size) xp1) (va_A Lc.flatten H.size))
    (kn : ∀ (v : Option Value) (L1 : List va_W), post1 v L1 → Go g (p, l, e, R, s, m, args, below, meth, c, A, mc, ms, Q) (pc + 5) lv (v.toList ++ rest) (Lr ++ L1) kc2 ks2)
    (kx : ∀ (E : String) (L1 : List va_W), xp1 E L1 → Gx g (p, l, e, R, s, m, args, below, meth, c, A, mc, ms, Q) E pc lv rest (Lr ++ L1) kc2 ks2) : W p l e R s m args below meth c H locs cells slots Q (F0 m pc ls st0) := by
  intro T hT X
  have hsub := vaA_sub h4 h5 hA
  rcases hr T hT X with ⟨v, st₀, t, T', Lo, h0, X', hL, e1, e2, ⟨v', L1, hv, hp, hW1, hF⟩, st⟩ | ⟨q, st₀, t, T', Lo, E, ce, h0, X', hL, e1, e2, ⟨L1, hp, hW1, hF⟩, hce, hcv, hcl, st⟩
  · cases hv
    obtain ⟨k1, k2, k3⟩ := vx_keep h0 e1 h5 (fun q _ h => hsub q h) hsub hL hF
    rw [← e1] at hW1
    obtain ⟨t2, b1, b2⟩ := kn v L1 hp T'.heap (locs ++ Lo) (cells + mc1) (slots + ms1) ls h1 (by omega) (by omega) (h4.join hsub k2 hW1) k3 T' rfl X'
    exact ⟨t2, st t2 b1, b2⟩
  · obtain ⟨k1, k2, k3⟩ := vx_keep h0 e1 h5 (fun q _ h => hsub q h) hsub hL hF
    rw [← e1] at hW1
    obtain ⟨t2, b1, b2⟩ := kx E L1 hp T'.heap (locs ++ Lo) (cells + mc1) (slots + ms1) ls q ce h1 (by omega) (by omega) (h4.join hsub k2 hW1) k3 (by rw [e1]; exact hce) hcv hcl T' rfl X'
    exact ⟨t2, st.trans b1, b2⟩
theorem g_callV (B : Fx g κ own cc nL ret lvl) {y : MethodName} {bytes : ByteArray} {maxL lvl1 mc1 ms1 kc2 ks2 n index : Nat} {ret1 : Option FieldType} {is : List Nat} {Lc Lr : List va_W} {st0 : List Value} {post1 : Option Value → List va_W → Prop} {xp1 : String → List va_W → Prop} {C : String} {b : Nat} (As : List Value) (hM : Ct g y (ws_ y bytes maxL ret1) lvl1 mc1 ms1 (.ref b :: As) Lc post1 xp1) (d : decode cc pc = .ok (.invokevirtual index, 3)) (hq : pc + 3 = q) (hr : Rec g κ L b C) (hC : y.cls = C) (q1 : Cond.methodLink own index y ∈ lw_all) (q2 : Cond.instanceMethod y ∈ lw_all) (q3 : Cond.selects C y y ∈ lw_all) (q4 : Cond.initialized C ∈ lw_all) (q5 : Cond.code y bytes maxL ret1 ∈ lw_all) (hxt : xt L is = (Lc, Lr)) (hs : st0 = As.reverse ++ .ref b :: st) (hm : Mo y n) (hn : As.length = n) (hlen : lv.length = nL) (hlv : lvl1 + 1 ≤ lvl) (hmx : maxL ≤ 45) (hst8 : (st.map fun v => v.category).sum ≤ 8) (hk1 : kc2 + mc1 ≤ kc) (hk2 : ks2 + ms1 ≤ ks)
    (kx : ∀ (E : String) (L1 : List va_W), xp1 E L1 → Gx g κ E pc lv st (Lr ++ L1) kc2 ks2) (kn : ∀ (v : Option Value) (L1 : List va_W), post1 v L1 → Go g κ q lv (v.toList ++ st) (Lr ++ L1) kc2 ks2) : Go g κ pc lv st0 L kc ks := by
  obtain ⟨p, l, e, R, s, m, args, below, meth, c, A, mc, ms, Q⟩ := κ
  obtain ⟨⟨hx, hb, hml, hown, hts⟩, ⟨-, hlk⟩, ⟨hst, hE, hA⟩, hR1, hR2, hR3, hR4⟩ := B
  subst hq; subst hs
  intro H locs cells slots ls h1 h2 h3 h4 h5
  have h4 := h4.xt hxt
  exact go_of_run hA h1 h2 h3 h4 h5 hk1 hk2 (vx_runV (As := As) (rest := st) ⟨hx, hb, hml, hown, hts⟩ (hM l H.size hst) (cwV n hts (lw_V q1 q2 q3 q4 q5) rfl rfl rfl ⟨hC, hm⟩ ⟨by show lvl1 + 1 + 1 ≤ R.frames; omega, by show 8 + (maxL + 11) + 64 * (lvl1 + 1) ≤ R.locals; omega⟩) ⟨Pre.blind, hr H locs (h4.to (R := []) (by rw [List.append_nil]; exact (by rw [List.flatten_append]; exact (xt_fl hxt).symm))) h5, pre_of hE hA h4 h5⟩ rfl hn (by rw [h1.1, hlen]) rfl (lv_room hst8) d ⟨by omega, by omega⟩) kn kx
theorem g_callS (B : Fx g κ own cc nL ret lvl) {y : MethodName} {bytes : ByteArray} {maxL lvl1 mc1 ms1 kc2 ks2 n index : Nat} {ret1 : Option FieldType} {is : List Nat} {Lc Lr : List va_W} {st0 : List Value} {post1 : Option Value → List va_W → Prop} {xp1 : String → List va_W → Prop}  (As : List Value) (hM : Ct g y (ws_ y bytes maxL ret1) lvl1 mc1 ms1 (As) Lc post1 xp1) (d : decode cc pc = .ok (.invokestatic index, 3)) (hq : pc + 3 = q) (q1 : Cond.methodLink own index y ∈ lw_all) (q2 : Cond.static y ∈ lw_all) (q3 : Cond.initialized y.cls ∈ lw_all) (q5 : Cond.code y bytes maxL ret1 ∈ lw_all) (hxt : xt L is = (Lc, Lr)) (hs : st0 = As.reverse ++ st) (hm : Mo y n) (hn : As.length = n) (hlen : lv.length = nL) (hlv : lvl1 + 1 ≤ lvl) (hmx : maxL ≤ 45) (hst8 : (st.map fun v => v.category).sum ≤ 8) (hk1 : kc2 + mc1 ≤ kc) (hk2 : ks2 + ms1 ≤ ks)
    (kx : ∀ (E : String) (L1 : List va_W), xp1 E L1 → Gx g κ E pc lv st (Lr ++ L1) kc2 ks2) (kn : ∀ (v : Option Value) (L1 : List va_W), post1 v L1 → Go g κ q lv (v.toList ++ st) (Lr ++ L1) kc2 ks2) : Go g κ pc lv st0 L kc ks := by
  obtain ⟨p, l, e, R, s, m, args, below, meth, c, A, mc, ms, Q⟩ := κ
  obtain ⟨⟨hx, hb, hml, hown, hts⟩, ⟨-, hlk⟩, ⟨hst, hE, hA⟩, hR1, hR2, hR3, hR4⟩ := B
  subst hq; subst hs
  intro H locs cells slots ls h1 h2 h3 h4 h5
  have h4 := h4.xt hxt
  exact go_of_run hA h1 h2 h3 h4 h5 hk1 hk2 (vx_runS (As := As) (rest := st) ⟨hx, hb, hml, hown, hts⟩ (hM l H.size hst) (va_cwS n hts (lw_S q1 q2 q3 q5) rfl rfl rfl hm ⟨by show lvl1 + 1 + 1 ≤ R.frames; omega, by show 8 + (maxL + 11) + 64 * (lvl1 + 1) ≤ R.locals; omega⟩) ⟨Pre.blind, pre_of hE hA h4 h5⟩ rfl hn (by rw [h1.1, hlen]) rfl (lv_room hst8) d ⟨by omega, by omega⟩) kn kx
theorem g_callI (B : Fx g κ own cc nL ret lvl) {y : MethodName} {bytes : ByteArray} {maxL lvl1 mc1 ms1 kc2 ks2 n index : Nat} {is : List Nat} {Lc Lr : List va_W} {st0 : List Value} {post1 : Option Value → List va_W → Prop} {xp1 : String → List va_W → Prop} {b : Nat} (As : List Value) (hM : Ct g y (ws_ y bytes maxL none) lvl1 mc1 ms1 (.ref b :: As) Lc post1 xp1) (d : decode cc pc = .ok (.invokespecial index, 3)) (hq : pc + 3 = q) (hin : y.name = "<init>") (q1 : Cond.methodLink own index y ∈ lw_all) (q2 : Cond.instanceMethod y ∈ lw_all) (q4 : Cond.initialized y.cls ∈ lw_all) (q5 : Cond.code y bytes maxL none ∈ lw_all) (hxt : xt L is = (Lc, Lr)) (hs : st0 = As.reverse ++ .ref b :: st) (hm : Mo y n) (hn : As.length = n) (hlen : lv.length = nL) (hlv : lvl1 + 1 ≤ lvl) (hmx : maxL ≤ 45) (hst8 : (st.map fun v => v.category).sum ≤ 8) (hk1 : kc2 + mc1 ≤ kc) (hk2 : ks2 + ms1 ≤ ks)
    (kx : ∀ (E : String) (L1 : List va_W), xp1 E L1 → Gx g κ E pc lv st (Lr ++ L1) kc2 ks2) (kn : ∀ (v : Option Value) (L1 : List va_W), post1 v L1 → Go g κ q lv (v.toList ++ st) (Lr ++ L1) kc2 ks2) : Go g κ pc lv st0 L kc ks := by
  obtain ⟨p, l, e, R, s, m, args, below, meth, c, A, mc, ms, Q⟩ := κ
  obtain ⟨⟨hx, hb, hml, hown, hts⟩, ⟨-, hlk⟩, ⟨hst, hE, hA⟩, hR1, hR2, hR3, hR4⟩ := B
  subst hq; subst hs
  intro H locs cells slots ls h1 h2 h3 h4 h5
  have h4 := h4.xt hxt
  exact go_of_run hA h1 h2 h3 h4 h5 hk1 hk2 (vx_runI (As := As) (rest := st) ⟨hx, hb, hml, hown, hts⟩ (hM l H.size hst) (cwI n hts (lw_meth q5) rfl rfl rfl (hts _ q4) (hts _ q1) (hts _ q2) hin hm ⟨by show lvl1 + 1 + 1 ≤ R.frames; omega, by show 8 + (maxL + 11) + 64 * (lvl1 + 1) ≤ R.locals; omega⟩) ⟨Pre.blind, pre_of hE hA h4 h5⟩ rfl hn (by rw [h1.1, hlen]) rfl (lv_room hst8) d ⟨by omega, by omega⟩) kn kx
theorem g_callU (B : Fx g κ own cc nL ret lvl) {y : MethodName} {bytes : ByteArray} {maxL lvl1 mc1 ms1 kc2 ks2 n index : Nat} {ret1 : Option FieldType} {is : List Nat} {Lc Lr : List va_W} {st0 : List Value} {post1 : Option Value → List va_W → Prop} {xp1 : String → List va_W → Prop} {x : MethodName} {C owner : String} {b : Nat} (As : List Value) (hM : Ct g y (ws_ y bytes maxL ret1) lvl1 mc1 ms1 (.ref b :: As) Lc post1 xp1) (d : decode cc pc = .ok (.invokevirtual index, 3)) (hq : pc + 3 = q) (hr : Rec g κ L b C) (hyx : y = ⟨owner, x.name, x.desc⟩) (ho : owner ≠ "java/lang/invoke/MethodHandle" ∧ owner ≠ "java/lang/invoke/VarHandle") (q1 : Cond.methodLink own index x ∈ lw_all) (q2 : Cond.sameMethod x.cls owner x.name x.desc ∈ lw_all) (q3 : Cond.selects C x y ∈ lw_all) (q6 : Cond.instanceMethod y ∈ lw_all) (q4 : Cond.initialized y.cls ∈ lw_all) (q5 : Cond.code y bytes maxL ret1 ∈ lw_all) (hxt : xt L is = (Lc, Lr)) (hs : st0 = As.reverse ++ .ref b :: st) (hm : Mo x n) (hn : As.length = n) (hlen : lv.length = nL) (hlv : lvl1 + 1 ≤ lvl) (hmx : maxL ≤ 45) (hst8 : (st.map fun v => v.category).sum ≤ 8) (hk1 : kc2 + mc1 ≤ kc) (hk2 : ks2 + ms1 ≤ ks)
    (kx : ∀ (E : String) (L1 : List va_W), xp1 E L1 → Gx g κ E pc lv st (Lr ++ L1) kc2 ks2) (kn : ∀ (v : Option Value) (L1 : List va_W), post1 v L1 → Go g κ q lv (v.toList ++ st) (Lr ++ L1) kc2 ks2) : Go g κ pc lv st0 L kc ks := by
  obtain ⟨p, l, e, R, s, m, args, below, meth, c, A, mc, ms, Q⟩ := κ
  obtain ⟨⟨hx, hb, hml, hown, hts⟩, ⟨-, hlk⟩, ⟨hst, hE, hA⟩, hR1, hR2, hR3, hR4⟩ := B
  subst hq; subst hs
  intro H locs cells slots ls h1 h2 h3 h4 h5
  have h4 := h4.xt hxt
  exact go_of_run hA h1 h2 h3 h4 h5 hk1 hk2 (vx_runU (As := As) (rest := st) ⟨hx, hb, hml, hown, hts⟩ (hM l H.size hst) (va_cwU n hts (lw_app (fun w hw => by simp only [List.mem_cons, List.not_mem_nil, or_false] at hw; rcases hw with e | e | e | e | e <;> (rw [e]; assumption)) (lw_meth q5)) rfl rfl rfl hyx ⟨ho.1, ho.2, hm.2.2⟩ ⟨by show lvl1 + 1 + 1 ≤ R.frames; omega, by show 8 + (maxL + 11) + 64 * (lvl1 + 1) ≤ R.locals; omega⟩) ⟨Pre.blind, hr H locs (h4.to (R := []) (by rw [List.append_nil]; exact (by rw [List.flatten_append]; exact (xt_fl hxt).symm))) h5, pre_of hE hA h4 h5⟩ rfl hn (by rw [h1.1, hlen]) rfl (lv_room hst8) d ⟨by omega, by omega⟩) kn kx
theorem g_callO (B : Fx g κ own cc nL ret lvl) {y : MethodName} {bytes : ByteArray} {maxL lvl1 mc1 ms1 kc2 ks2 n index : Nat} {ret1 : Option FieldType} {is : List Nat} {Lc Lr : List va_W} {st0 : List Value} {post1 : Option Value → List va_W → Prop} {xp1 : String → List va_W → Prop} {x : MethodName} {C owner : String} {b : Nat} {b0 : ByteArray} {m0 : Nat} {r0 : Option FieldType} (As : List Value) (hM : Ct g y (ws_ y bytes maxL ret1) lvl1 mc1 ms1 (.ref b :: As) Lc post1 xp1) (d : decode cc pc = .ok (.invokevirtual index, 3)) (hq : pc + 3 = q) (hr : Rec g κ L b C) (h0 : Cond.code ⟨owner, x.name, x.desc⟩ b0 m0 r0 ∈ lw_all) (ho : owner ≠ "java/lang/invoke/MethodHandle" ∧ owner ≠ "java/lang/invoke/VarHandle") (qq : GoodIn lw_all (va_wsO own index C owner x y (ws_ y bytes maxL ret1))) (hxt : xt L is = (Lc, Lr)) (hs : st0 = As.reverse ++ .ref b :: st) (hm : Mo x n) (hn : As.length = n) (hlen : lv.length = nL) (hlv : lvl1 + 1 ≤ lvl) (hmx : maxL ≤ 45) (hst8 : (st.map fun v => v.category).sum ≤ 8) (hk1 : kc2 + mc1 ≤ kc) (hk2 : ks2 + ms1 ≤ ks)
    (kx : ∀ (E : String) (L1 : List va_W), xp1 E L1 → Gx g κ E pc lv st (Lr ++ L1) kc2 ks2) (kn : ∀ (v : Option Value) (L1 : List va_W), post1 v L1 → Go g κ q lv (v.toList ++ st) (Lr ++ L1) kc2 ks2) : Go g κ pc lv st0 L kc ks := by
  obtain ⟨p, l, e, R, s, m, args, below, meth, c, A, mc, ms, Q⟩ := κ
  obtain ⟨⟨hx, hb, hml, hown, hts⟩, ⟨-, hlk⟩, ⟨hst, hE, hA⟩, hR1, hR2, hR3, hR4⟩ := B
  subst hq; subst hs
  intro H locs cells slots ls h1 h2 h3 h4 h5
  have h4 := h4.xt hxt
  exact go_of_run hA h1 h2 h3 h4 h5 hk1 hk2 (vx_runU (As := As) (rest := st) ⟨hx, hb, hml, hown, hts⟩ (hM l H.size hst) (va_cwO n hts qq rfl rfl rfl h0 ⟨ho.1, ho.2, hm.2.2⟩ ⟨by show lvl1 + 1 + 1 ≤ R.frames; omega, by show 8 + (maxL + 11) + 64 * (lvl1 + 1) ≤ R.locals; omega⟩) ⟨Pre.blind, hr H locs (h4.to (R := []) (by rw [List.append_nil]; exact (by rw [List.flatten_append]; exact (xt_fl hxt).symm))) h5, pre_of hE hA h4 h5⟩ rfl hn (by rw [h1.1, hlen]) rfl (lv_room hst8) d ⟨by omega, by omega⟩) kn kx
theorem g_callSU (B : Fx g κ own cc nL ret lvl) {y : MethodName} {bytes : ByteArray} {maxL lvl1 mc1 ms1 kc2 ks2 n index : Nat} {ret1 : Option FieldType} {is : List Nat} {Lc Lr : List va_W} {st0 : List Value} {post1 : Option Value → List va_W → Prop} {xp1 : String → List va_W → Prop} {C : String} {T : u_T} {N ci : Nat} {b : Nat} (As : List Value) (hM : Ct g y (ws_ y bytes maxL ret1) lvl1 mc1 ms1 (.ref b :: As) Lc post1 xp1) (d : decode cc pc = .ok (.invokespecial index, 3)) (hq : pc + 3 = q) (hc : gCL[ci]? = some (C, T, N)) (hr : Rec g κ L b C) (hin : y.name ≠ "<init>") (q1 : Cond.methodLink own index y ∈ lw_all) (q2 : Cond.sameMethod y.cls y.cls y.name y.desc ∈ lw_all) (q3 : Cond.superclass own y.cls ∈ lw_all) (q6 : Cond.instanceMethod y ∈ lw_all) (q4 : Cond.initialized y.cls ∈ lw_all) (q5 : Cond.code y bytes maxL ret1 ∈ lw_all) (hxt : xt L is = (Lc, Lr)) (hs : st0 = As.reverse ++ .ref b :: st) (hm : Mo y n) (hn : As.length = n) (hlen : lv.length = nL) (hlv : lvl1 + 1 ≤ lvl) (hmx : maxL ≤ 45) (hst8 : (st.map fun v => v.category).sum ≤ 8) (hk1 : kc2 + mc1 ≤ kc) (hk2 : ks2 + ms1 ≤ ks)
    (kx : ∀ (E : String) (L1 : List va_W), xp1 E L1 → Gx g κ E pc lv st (Lr ++ L1) kc2 ks2) (kn : ∀ (v : Option Value) (L1 : List va_W), post1 v L1 → Go g κ q lv (v.toList ++ st) (Lr ++ L1) kc2 ks2) : Go g κ pc lv st0 L kc ks := by
  obtain ⟨p, l, e, R, s, m, args, below, meth, c, A, mc, ms, Q⟩ := κ
  obtain ⟨⟨hx, hb, hml, hown, hts⟩, ⟨-, hlk⟩, ⟨hst, hE, hA⟩, hR1, hR2, hR3, hR4⟩ := B
  subst hq; subst hs
  intro H locs cells slots ls h1 h2 h3 h4 h5
  have h4 := h4.xt hxt
  exact go_of_run hA h1 h2 h3 h4 h5 hk1 hk2 (vx_runSU (As := As) (rest := st) ((hE.1.1 ci _ hc).2) ⟨hx, hb, hml, hown, hts⟩ (hM l H.size hst) (va_cwSU n hts (lw_app (fun w hw => by simp only [List.mem_cons, List.not_mem_nil, or_false] at hw; rcases hw with e | e | e | e | e <;> (rw [e]; assumption)) (lw_meth q5)) rfl rfl rfl ⟨hin, hm.2.2⟩ ⟨by show lvl1 + 1 + 1 ≤ R.frames; omega, by show 8 + (maxL + 11) + 64 * (lvl1 + 1) ≤ R.locals; omega⟩) ⟨Pre.blind, hr H locs (h4.to (R := []) (by rw [List.append_nil]; exact (by rw [List.flatten_append]; exact (xt_fl hxt).symm))) h5, pre_of hE hA h4 h5⟩ rfl hn (by rw [h1.1, hlen]) rfl (lv_room hst8) d ⟨by omega, by omega⟩) kn kx
theorem g_callVN (B : Fx g κ own cc nL ret lvl) {y : MethodName} {bytes : ByteArray} {maxL lvl1 mc1 ms1 kc2 ks2 n index : Nat} {ret1 : Option FieldType} {is : List Nat} {Lc Lr : List va_W} {st0 : List Value} {post1 : Option Value → List va_W → Prop} {xp1 : String → List va_W → Prop} {C host : String} {b : Nat} (As : List Value) (hM : Ct g y (ws_ y bytes maxL ret1) lvl1 mc1 ms1 (.ref b :: As) Lc post1 xp1) (d : decode cc pc = .ok (.invokevirtual index, 3)) (hq : pc + 3 = q) (hr : Rec g κ L b C) (q1 : Cond.methodLinkNest own index y host ∈ lw_tbl) (q2 : Cond.instanceMethod y ∈ lw_all) (q3 : Cond.selects C y y ∈ lw_all) (q4 : Cond.initialized y.cls ∈ lw_all) (q5 : Cond.code y bytes maxL ret1 ∈ lw_all) (hxt : xt L is = (Lc, Lr)) (hs : st0 = As.reverse ++ .ref b :: st) (hm : Mo y n) (hn : As.length = n) (hlen : lv.length = nL) (hlv : lvl1 + 1 ≤ lvl) (hmx : maxL ≤ 45) (hst8 : (st.map fun v => v.category).sum ≤ 8) (hk1 : kc2 + mc1 ≤ kc) (hk2 : ks2 + ms1 ≤ ks)
    (kx : ∀ (E : String) (L1 : List va_W), xp1 E L1 → Gx g κ E pc lv st (Lr ++ L1) kc2 ks2) (kn : ∀ (v : Option Value) (L1 : List va_W), post1 v L1 → Go g κ q lv (v.toList ++ st) (Lr ++ L1) kc2 ks2) : Go g κ pc lv st0 L kc ks := by
  obtain ⟨p, l, e, R, s, m, args, below, meth, c, A, mc, ms, Q⟩ := κ
  obtain ⟨⟨hx, hb, hml, hown, hts⟩, ⟨-, hlk⟩, ⟨hst, hE, hA⟩, hR1, hR2, hR3, hR4⟩ := B
  subst hq; subst hs
  intro H locs cells slots ls h1 h2 h3 h4 h5
  have h4 := h4.xt hxt
  exact go_of_run hA h1 h2 h3 h4 h5 hk1 hk2 (vx_runVN (As := As) (rest := st) ⟨hx, hb, hml, hown, hts⟩ (hM l H.size hst) ⟨(va_cnB n hts (lw_meth q5) rfl rfl rfl (hE.2.1.1 _ q1 rfl) (hts _ q4) hm ⟨by show lvl1 + 1 + 1 ≤ R.frames; omega, by show 8 + (maxL + 11) + 64 * (lvl1 + 1) ≤ R.locals; omega⟩), hts _ q2, hts _ q3⟩ ⟨Pre.blind, hr H locs (h4.to (R := []) (by rw [List.append_nil]; exact (by rw [List.flatten_append]; exact (xt_fl hxt).symm))) h5, pre_of hE hA h4 h5⟩ rfl hn (by rw [h1.1, hlen]) rfl (lv_room hst8) d ⟨by omega, by omega⟩) kn kx
theorem g_callSN (B : Fx g κ own cc nL ret lvl) {y : MethodName} {bytes : ByteArray} {maxL lvl1 mc1 ms1 kc2 ks2 n index : Nat} {ret1 : Option FieldType} {is : List Nat} {Lc Lr : List va_W} {st0 : List Value} {post1 : Option Value → List va_W → Prop} {xp1 : String → List va_W → Prop} {host : String} (As : List Value) (hM : Ct g y (ws_ y bytes maxL ret1) lvl1 mc1 ms1 (As) Lc post1 xp1) (d : decode cc pc = .ok (.invokestatic index, 3)) (hq : pc + 3 = q) (q1 : Cond.methodLinkNest own index y host ∈ lw_tbl) (q2 : Cond.static y ∈ lw_all) (q4 : Cond.initialized y.cls ∈ lw_all) (q5 : Cond.code y bytes maxL ret1 ∈ lw_all) (hxt : xt L is = (Lc, Lr)) (hs : st0 = As.reverse ++ st) (hm : Mo y n) (hn : As.length = n) (hlen : lv.length = nL) (hlv : lvl1 + 1 ≤ lvl) (hmx : maxL ≤ 45) (hst8 : (st.map fun v => v.category).sum ≤ 8) (hk1 : kc2 + mc1 ≤ kc) (hk2 : ks2 + ms1 ≤ ks)
    (kx : ∀ (E : String) (L1 : List va_W), xp1 E L1 → Gx g κ E pc lv st (Lr ++ L1) kc2 ks2) (kn : ∀ (v : Option Value) (L1 : List va_W), post1 v L1 → Go g κ q lv (v.toList ++ st) (Lr ++ L1) kc2 ks2) : Go g κ pc lv st0 L kc ks := by
  obtain ⟨p, l, e, R, s, m, args, below, meth, c, A, mc, ms, Q⟩ := κ
  obtain ⟨⟨hx, hb, hml, hown, hts⟩, ⟨-, hlk⟩, ⟨hst, hE, hA⟩, hR1, hR2, hR3, hR4⟩ := B
  subst hq; subst hs
  intro H locs cells slots ls h1 h2 h3 h4 h5
  have h4 := h4.xt hxt
  exact go_of_run hA h1 h2 h3 h4 h5 hk1 hk2 (vx_runSN (As := As) (rest := st) ⟨hx, hb, hml, hown, hts⟩ (hM l H.size hst) ⟨(va_cnB n hts (lw_meth q5) rfl rfl rfl (hE.2.1.1 _ q1 rfl) (hts _ q4) hm ⟨by show lvl1 + 1 + 1 ≤ R.frames; omega, by show 8 + (maxL + 11) + 64 * (lvl1 + 1) ≤ R.locals; omega⟩), hts _ q2, trivial⟩ ⟨Pre.blind, pre_of hE hA h4 h5⟩ rfl hn (by rw [h1.1, hlen]) rfl (lv_room hst8) d ⟨by omega, by omega⟩) kn kx
theorem g_callIN (B : Fx g κ own cc nL ret lvl) {y : MethodName} {bytes : ByteArray} {maxL lvl1 mc1 ms1 kc2 ks2 n index : Nat} {is : List Nat} {Lc Lr : List va_W} {st0 : List Value} {post1 : Option Value → List va_W → Prop} {xp1 : String → List va_W → Prop} {host : String} {b : Nat} (As : List Value) (hM : Ct g y (ws_ y bytes maxL none) lvl1 mc1 ms1 (.ref b :: As) Lc post1 xp1) (d : decode cc pc = .ok (.invokespecial index, 3)) (hq : pc + 3 = q) (hin : y.name = "<init>") (q1 : Cond.methodLinkNest own index y host ∈ lw_tbl) (q2 : Cond.instanceMethod y ∈ lw_all) (q4 : Cond.initialized y.cls ∈ lw_all) (q5 : Cond.code y bytes maxL none ∈ lw_all) (hxt : xt L is = (Lc, Lr)) (hs : st0 = As.reverse ++ .ref b :: st) (hm : Mo y n) (hn : As.length = n) (hlen : lv.length = nL) (hlv : lvl1 + 1 ≤ lvl) (hmx : maxL ≤ 45) (hst8 : (st.map fun v => v.category).sum ≤ 8) (hk1 : kc2 + mc1 ≤ kc) (hk2 : ks2 + ms1 ≤ ks)
    (kx : ∀ (E : String) (L1 : List va_W), xp1 E L1 → Gx g κ E pc lv st (Lr ++ L1) kc2 ks2) (kn : ∀ (v : Option Value) (L1 : List va_W), post1 v L1 → Go g κ q lv (v.toList ++ st) (Lr ++ L1) kc2 ks2) : Go g κ pc lv st0 L kc ks := by
  obtain ⟨p, l, e, R, s, m, args, below, meth, c, A, mc, ms, Q⟩ := κ
  obtain ⟨⟨hx, hb, hml, hown, hts⟩, ⟨-, hlk⟩, ⟨hst, hE, hA⟩, hR1, hR2, hR3, hR4⟩ := B
  subst hq; subst hs
  intro H locs cells slots ls h1 h2 h3 h4 h5
  have h4 := h4.xt hxt
  exact go_of_run hA h1 h2 h3 h4 h5 hk1 hk2 (vx_runIN (As := As) (rest := st) ⟨hx, hb, hml, hown, hts⟩ (hM l H.size hst) ⟨(va_cnB n hts (lw_meth q5) rfl rfl rfl (hE.2.1.1 _ q1 rfl) (hts _ q4) hm ⟨by show lvl1 + 1 + 1 ≤ R.frames; omega, by show 8 + (maxL + 11) + 64 * (lvl1 + 1) ≤ R.locals; omega⟩), hin, hts _ q2⟩ ⟨Pre.blind, pre_of hE hA h4 h5⟩ rfl hn (by rw [h1.1, hlen]) rfl (lv_room hst8) d ⟨by omega, by omega⟩) kn kx
theorem g_callF (B : Fx g κ own cc nL ret lvl) {y : MethodName} {bytes : ByteArray} {maxL lvl1 mc1 ms1 kc2 ks2 n index : Nat} {ret1 : Option FieldType} {is : List Nat} {Lc Lr : List va_W} {st0 : List Value} {post1 : Option Value → List va_W → Prop} {xp1 : String → List va_W → Prop} {x : MethodName} {C : String} {T : u_T} {N ci count : Nat} {b : Nat} (As : List Value) (hM : Ct g y (ws_ y bytes maxL ret1) lvl1 mc1 ms1 (.ref b :: As) Lc post1 xp1) (d : decode cc pc = .ok (.invokeinterface index count, 5)) (hq : pc + 5 = q) (hc : gCL[ci]? = some (C, T, N)) (hr : Rec g κ L b C) (q1 : Cond.methodLink own index x ∈ lw_all) (q3 : Cond.selects C x y ∈ lw_all) (q6 : Cond.instanceMethod y ∈ lw_all) (q4 : Cond.initialized y.cls ∈ lw_all) (q5 : Cond.code y bytes maxL ret1 ∈ lw_all) (f1 : Cond.declares x ∈ lw_tbl) (f2 : Cond.interfaceMethod x.cls x.cls x.name x.desc ∈ lw_tbl) (f3 : Cond.publicMethod y ∈ lw_tbl) (f4 : Cond.unhidden C x.name x.desc ∈ lw_tbl) (f5 : Cond.castable C x.cls ∈ lw_tbl) (hxt : xt L is = (Lc, Lr)) (hs : st0 = As.reverse ++ .ref b :: st) (hm : Mo x n) (hn : As.length = n) (hlen : lv.length = nL) (hlv : lvl1 + 1 ≤ lvl) (hmx : maxL ≤ 45) (hst8 : (st.map fun v => v.category).sum ≤ 8) (hk1 : kc2 + mc1 ≤ kc) (hk2 : ks2 + ms1 ≤ ks)
    (kx : ∀ (E : String) (L1 : List va_W), xp1 E L1 → Gx g κ E pc lv st (Lr ++ L1) kc2 ks2) (kn : ∀ (v : Option Value) (L1 : List va_W), post1 v L1 → Go g κ q lv (v.toList ++ st) (Lr ++ L1) kc2 ks2) : Go g κ pc lv st0 L kc ks := by
  obtain ⟨p, l, e, R, s, m, args, below, meth, c, A, mc, ms, Q⟩ := κ
  obtain ⟨⟨hx, hb, hml, hown, hts⟩, ⟨-, hlk⟩, ⟨hst, hE, hA⟩, hR1, hR2, hR3, hR4⟩ := B
  subst hq; subst hs
  intro H locs cells slots ls h1 h2 h3 h4 h5
  have h4 := h4.xt hxt
  exact go_of_run5 hA h1 h2 h3 h4 h5 hk1 hk2 (vx_runF (As := As) (rest := st) ((hE.1.1 ci _ hc).2) ⟨hx, hb, hml, hown, hts⟩ (hM l H.size hst) (va_cwF n hts (lw_app (fun w hw => by simp only [List.mem_cons, List.not_mem_nil, or_false] at hw; rcases hw with e | e | e | e <;> (rw [e]; assumption)) (lw_meth q5)) rfl rfl rfl ⟨hE.2.1.1 _ f1 rfl, hE.2.1.2.1 _ _ _ f2 ⟨hm.1, hm.2.1⟩ f1, hE.2.1.1 _ f3 rfl, hE.2.1.1 _ f4 rfl, hE.2.1.1 _ f5 rfl⟩ hm ⟨by show lvl1 + 1 + 1 ≤ R.frames; omega, by show 8 + (maxL + 11) + 64 * (lvl1 + 1) ≤ R.locals; omega⟩) ⟨Pre.blind, hr H locs (h4.to (R := []) (by rw [List.append_nil]; exact (by rw [List.flatten_append]; exact (xt_fl hxt).symm))) h5, pre_of hE hA h4 h5⟩ rfl hn (by rw [h1.1, hlen]) rfl (lv_room hst8) d ⟨by omega, by omega⟩) kn kx
theorem g_callSW (B : Fx g κ own cc nL ret lvl) {y : MethodName} {bytes : ByteArray} {maxL lvl1 mc1 ms1 kc2 ks2 n index : Nat} {ret1 : Option FieldType} {is : List Nat} {Lc Lr : List va_W} {st0 : List Value} {post1 : Option Value → List va_W → Prop} {xp1 : String → List va_W → Prop} {hh : List (Nat × Nat × Nat × Nat)} (As : List Value) (hM : Ct g y (wsW_ y bytes maxL ret1 hh) lvl1 mc1 ms1 (As) Lc post1 xp1) (d : decode cc pc = .ok (.invokestatic index, 3)) (hq : pc + 3 = q) (q1 : Cond.methodLink own index y ∈ lw_all) (q2 : Cond.static y ∈ lw_all) (q3 : Cond.initialized y.cls ∈ lw_all) (q5 : Cond.codeWith y bytes maxL ret1 hh ∈ lw_all) (hxt : xt L is = (Lc, Lr)) (hs : st0 = As.reverse ++ st) (hm : Mo y n) (hn : As.length = n) (hlen : lv.length = nL) (hlv : lvl1 + 1 ≤ lvl) (hmx : maxL ≤ 45) (hst8 : (st.map fun v => v.category).sum ≤ 8) (hk1 : kc2 + mc1 ≤ kc) (hk2 : ks2 + ms1 ≤ ks)
    (kx : ∀ (E : String) (L1 : List va_W), xp1 E L1 → Gx g κ E pc lv st (Lr ++ L1) kc2 ks2) (kn : ∀ (v : Option Value) (L1 : List va_W), post1 v L1 → Go g κ q lv (v.toList ++ st) (Lr ++ L1) kc2 ks2) : Go g κ pc lv st0 L kc ks := by
  obtain ⟨p, l, e, R, s, m, args, below, meth, c, A, mc, ms, Q⟩ := κ
  obtain ⟨⟨hx, hb, hml, hown, hts⟩, ⟨-, hlk⟩, ⟨hst, hE, hA⟩, hR1, hR2, hR3, hR4⟩ := B
  subst hq; subst hs
  intro H locs cells slots ls h1 h2 h3 h4 h5
  have h4 := h4.xt hxt
  exact go_of_run hA h1 h2 h3 h4 h5 hk1 hk2 (vx_runSX (As := As) (rest := st) ⟨hx, hb, hml, hown, hts⟩ (hM l H.size hst) (vx_cwSW n hts (lw_SW q1 q2 q3 q5) rfl rfl rfl hm ⟨by show lvl1 + 1 + 1 ≤ R.frames; omega, by show 8 + (maxL + 11) + 64 * (lvl1 + 1) ≤ R.locals; omega⟩) ⟨Pre.blind, pre_of hE hA h4 h5⟩ rfl hn (by rw [h1.1, hlen]) rfl (lv_room hst8) d ⟨by omega, by omega⟩) kn kx
theorem g_callVW (B : Fx g κ own cc nL ret lvl) {y : MethodName} {bytes : ByteArray} {maxL lvl1 mc1 ms1 kc2 ks2 n index : Nat} {ret1 : Option FieldType} {is : List Nat} {Lc Lr : List va_W} {st0 : List Value} {post1 : Option Value → List va_W → Prop} {xp1 : String → List va_W → Prop} {C : String} {b : Nat} {hh : List (Nat × Nat × Nat × Nat)} (As : List Value) (hM : Ct g y (wsW_ y bytes maxL ret1 hh) lvl1 mc1 ms1 (.ref b :: As) Lc post1 xp1) (d : decode cc pc = .ok (.invokevirtual index, 3)) (hq : pc + 3 = q) (hr : Rec g κ L b C) (hC : y.cls = C) (q1 : Cond.methodLink own index y ∈ lw_all) (q2 : Cond.instanceMethod y ∈ lw_all) (q3 : Cond.selects C y y ∈ lw_all) (q4 : Cond.initialized C ∈ lw_all) (q5 : Cond.codeWith y bytes maxL ret1 hh ∈ lw_all) (hxt : xt L is = (Lc, Lr)) (hs : st0 = As.reverse ++ .ref b :: st) (hm : Mo y n) (hn : As.length = n) (hlen : lv.length = nL) (hlv : lvl1 + 1 ≤ lvl) (hmx : maxL ≤ 45) (hst8 : (st.map fun v => v.category).sum ≤ 8) (hk1 : kc2 + mc1 ≤ kc) (hk2 : ks2 + ms1 ≤ ks)
    (kx : ∀ (E : String) (L1 : List va_W), xp1 E L1 → Gx g κ E pc lv st (Lr ++ L1) kc2 ks2) (kn : ∀ (v : Option Value) (L1 : List va_W), post1 v L1 → Go g κ q lv (v.toList ++ st) (Lr ++ L1) kc2 ks2) : Go g κ pc lv st0 L kc ks := by
  obtain ⟨p, l, e, R, s, m, args, below, meth, c, A, mc, ms, Q⟩ := κ
  obtain ⟨⟨hx, hb, hml, hown, hts⟩, ⟨-, hlk⟩, ⟨hst, hE, hA⟩, hR1, hR2, hR3, hR4⟩ := B
  subst hq; subst hs
  intro H locs cells slots ls h1 h2 h3 h4 h5
  have h4 := h4.xt hxt
  exact go_of_run hA h1 h2 h3 h4 h5 hk1 hk2 (vx_runVX (As := As) (rest := st) ⟨hx, hb, hml, hown, hts⟩ (hM l H.size hst) (vx_cwVW n hts (lw_VW q1 q2 q3 q4 q5) rfl rfl rfl ⟨hC, hm⟩ ⟨by show lvl1 + 1 + 1 ≤ R.frames; omega, by show 8 + (maxL + 11) + 64 * (lvl1 + 1) ≤ R.locals; omega⟩) ⟨Pre.blind, hr H locs (h4.to (R := []) (by rw [List.append_nil]; exact (by rw [List.flatten_append]; exact (xt_fl hxt).symm))) h5, pre_of hE hA h4 h5⟩ rfl hn (by rw [h1.1, hlen]) rfl (lv_room hst8) d ⟨by omega, by omega⟩) kn kx
/-- nothing is thrown -/
theorem noX_x {Lr : List va_W} {E : String} {L1 : List va_W} (h : noX E L1) : Gx g κ E pc lv st (Lr ++ L1) kc ks := h.elim
/-- thrown on to the caller -/
theorem g_out {post : Option Value → List va_W → Prop} {xp : String → List va_W → Prop} {E : String} (B : Fx g κ own cc nL ret lvl) (N : Nd g κ post xp) (tb : Tb κ []) (hp : xp E L) : Gx g κ E pc lv st L kc ks := by
  obtain ⟨p, l, e, R, s, m, args, below, meth, c, A, mc, ms, Q⟩ := κ
  obtain ⟨⟨hx, hb, hml, hown, hts⟩, ⟨-, hlk⟩, ⟨hst, hE, hA⟩, hR1, hR2, hR3, hR4⟩ := B
  have N : Q = _ := N
  subst N
  have tb : c.exceptionTable.toList = [] := tb
  intro H locs cells slots ls q ce h1 h2 h3 h4 h5 h6 h7 h8
  exact vx_out (by rw [tb]; intro x hx; cases hx) hlk h6 h7 h8 (fun t ht _ => ⟨L, hp, by rw [ht]; exact h4, h5.F ht⟩) h5.2.2 (by omega) (by omega)
end
