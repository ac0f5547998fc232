set_option maxRecDepth 100000
theorem g_lookup {g : Gv} {κ : Kx} {own : String} {cc : ByteArray} {nL : Nat} {ret : Option FieldType} {lvl : Nat} {pc : Nat} {lv : List (Option Value)} {st : List Value} {L : List va_W} {kc ks : Nat} (B : Fx g κ own cc nL ret lvl) {dflt : Int} {ps : Array (Int × Int)} {len : Nat} {x : Int32} {off : Int} {tgt : Nat} (d : decode cc pc = .ok (.lookupswitch dflt ps, len)) (hp : (ps.toList.zip (ps.toList.drop 1)).all (fun (a, next) => a.1 < next.1) = true) (ho : Op.lookupswitch.offset ps.toList dflt x.toInt = off) (ht : (pc : Int) + off = (tgt : Int)) (kk : Go g κ tgt lv st L kc ks) : Go g κ pc lv (.int x :: st) L kc ks := by
  obtain ⟨p, l, e, R, s, m, args, below, meth, c, A, mc, ms, Q⟩ := κ
  obtain ⟨⟨hx, hb, hml, hown, hts⟩, ⟨hr, hlk⟩, ⟨hst, hE, hA⟩, hR1, hR2, hR3, hR4⟩ := B
  intro H locs cells slots ls h1 h2 h3 h4 h5
  exact lv_lookup hx hb d hp ho ht (kk H locs cells slots ls h1 h2 h3 h4 h5)
theorem g_tabIn {g : Gv} {κ : Kx} {own : String} {cc : ByteArray} {nL : Nat} {ret : Option FieldType} {lvl : Nat} {pc : Nat} {lv : List (Option Value)} {st : List Value} {L : List va_W} {kc ks : Nat} (B : Fx g κ own cc nL ret lvl) {dflt lo hi : Int} {offs : Array Int} {len : Nat} {x : Int32} {off : Int} {tgt : Nat} (d : decode cc pc = .ok (.tableswitch dflt lo hi offs, len)) (hl : ¬ x.toInt < lo) (hh : ¬ hi < x.toInt) (ho : offs[(x.toInt - lo).toNat]? = some off) (ht : (pc : Int) + off = (tgt : Int)) (kk : Go g κ tgt lv st L kc ks) : Go g κ pc lv (.int x :: st) L kc ks := by
  obtain ⟨p, l, e, R, s, m, args, below, meth, c, A, mc, ms, Q⟩ := κ
  obtain ⟨⟨hx, hb, hml, hown, hts⟩, ⟨hr, hlk⟩, ⟨hst, hE, hA⟩, hR1, hR2, hR3, hR4⟩ := B
  intro H locs cells slots ls h1 h2 h3 h4 h5
  exact lv_tableIn hx hb d hl hh ho ht (kk H locs cells slots ls h1 h2 h3 h4 h5)
theorem g_tabOut {g : Gv} {κ : Kx} {own : String} {cc : ByteArray} {nL : Nat} {ret : Option FieldType} {lvl : Nat} {pc : Nat} {lv : List (Option Value)} {st : List Value} {L : List va_W} {kc ks : Nat} (B : Fx g κ own cc nL ret lvl) {dflt lo hi : Int} {offs : Array Int} {len : Nat} {x : Int32} {tgt : Nat} (d : decode cc pc = .ok (.tableswitch dflt lo hi offs, len)) (h : x.toInt < lo ∨ hi < x.toInt) (ht : (pc : Int) + dflt = (tgt : Int)) (kk : Go g κ tgt lv st L kc ks) : Go g κ pc lv (.int x :: st) L kc ks := by
  obtain ⟨p, l, e, R, s, m, args, below, meth, c, A, mc, ms, Q⟩ := κ
  obtain ⟨⟨hx, hb, hml, hown, hts⟩, ⟨hr, hlk⟩, ⟨hst, hE, hA⟩, hR1, hR2, hR3, hR4⟩ := B
  intro H locs cells slots ls h1 h2 h3 h4 h5
  exact lv_tableOut hx hb d h ht (kk H locs cells slots ls h1 h2 h3 h4 h5)
/-- bytes of a text -/
def byt (c : List Nat) : Nat → Int32 := fun i => nI (c.getD i 0)
def asc (c : List Nat) : Prop := ∀ b ∈ c, b < 128
theorem byt_nil : byt [] = fun _ => 0 := rfl
theorem by_fit : ∀ b, b < 128 → fits .byte (.int (nI b)) = true := by decide +kernel
theorem by_nar : ∀ b, b < 128 → vp_nar .byte (nI b) = nI b := by decide +kernel
theorem by_255 : ∀ b, b < 128 → nI b &&& nI 255 = nI b := by decide +kernel
theorem asc_at {c : List Nat} (h : asc c) (i : Nat) : c.getD i 0 < 128 := by
  rw [List.getD_eq_getElem?_getD]
  cases e : c[i]? with
  | none => decide
  | some b => exact h b (List.mem_of_getElem? e)
theorem byt_fit {c : List Nat} (h : asc c) (i : Nat) : fits .byte (.int (byt c i)) = true := by_fit _ (asc_at h i)
theorem byt_app {c : List Nat} {b : Nat} (hb : b < 128) : upd (byt c) c.length (vp_nar .byte (nI b)) = byt (c ++ [b]) := by
  funext i
  unfold upd byt
  rw [by_nar b hb]
  by_cases h : i = c.length
  · subst h; simp
  · rw [if_neg h]
    congr 1
    simp only [List.getD_eq_getElem?_getD]
    rcases Nat.lt_or_ge i c.length with q | q
    · rw [List.getElem?_append_left q]
    · rw [List.getElem?_eq_none (by omega), List.getElem?_eq_none (by simp; omega)]
theorem byt_cpy {c : List Nat} {n : Nat} (h : c.length = n) : va_cpy (byt c) (fun _ => 0) 0 0 n = byt c := by
  funext i
  unfold va_cpy
  by_cases hi : 0 ≤ i ∧ i < 0 + n
  · rw [if_pos hi]; simp
  · rw [if_neg hi]; unfold byt; rw [List.getD_eq_getElem?_getD, List.getElem?_eq_none (by omega)]; rfl
theorem byt_comma {c : List Nat} : va_cpy (fun _ => 44) (byt c) 0 c.length 1 = byt (c ++ [44]) := by
  rw [← byt_app (by decide)]
  funext i
  unfold va_cpy upd
  by_cases hi : i = c.length
  · rw [if_pos (by omega), if_pos hi]; rfl
  · rw [if_neg (by omega), if_neg hi]
def dln (k : Nat) : Nat := if k < 10 then 1 else if k < 100 then 2 else 3
theorem dec_len (k : Nat) : (dec k).length = dln k := by
  unfold dec dln
  by_cases h1 : k < 10
  · simp [h1]
  · by_cases h2 : k < 100 <;> simp [h1, h2]
theorem dln_le (k : Nat) : 1 ≤ dln k ∧ dln k ≤ 3 := by
  unfold dln
  by_cases h1 : k < 10
  · simp [h1]
  · by_cases h2 : k < 100 <;> simp [h1, h2]
theorem dln_cs (k : Nat) : (k < 10 ∧ dln k = 1) ∨ (10 ≤ k ∧ k < 100 ∧ dln k = 2) ∨ (100 ≤ k ∧ dln k = 3) := by
  unfold dln
  by_cases h1 : k < 10
  · simp [h1]
  · by_cases h2 : k < 100 <;> simp [h1, h2] <;> omega
theorem dec_asc {k : Nat} (hk : k < 1000) : asc (dec k) := by
  intro b hb
  unfold dec at hb
  split at hb
  · simp at hb; omega
  · split at hb
    · simp at hb; omega
    · simp at hb; omega
theorem asc_app {c d : List Nat} (h1 : asc c) (h2 : asc d) : asc (c ++ d) := fun b hb => (List.mem_append.mp hb).elim (h1 b) (h2 b)
theorem ss_1 : ∀ k, k < 1000 → (-nI k ≤ -10 ↔ 10 ≤ k) := by decide +kernel
theorem ss_2 : ∀ k, k < 1000 → (-nI k ≤ -100 ↔ 100 ≤ k) := by decide +kernel
theorem ss_3 : ∀ k, k < 1000 → ¬ -nI k ≤ -1000 := by decide +kernel
theorem gc_0 : ∀ k, k < 1000 → ¬ nI k < 0 := by decide +kernel
theorem gc_1 : ∀ k, k < 1000 → (-100 < -nI k ↔ k < 100) := by decide +kernel
theorem gc_q : ∀ k, k < 1000 → -nI k / nI 100 = -nI (k / 100) := by decide +kernel
theorem gc_r : ∀ k, k < 1000 → -nI (k / 100) * nI 100 - -nI k = nI (k % 100) := by decide +kernel
theorem gc_n : ∀ k, k < 1000 → - -nI k = nI k := by decide +kernel
theorem gc_9 : ∀ k, k < 1000 → (-9 ≤ -nI k ↔ k < 10) := by decide +kernel
theorem cap_16 : ∀ n, n < 17 → nI n - nI 16 ≤ 0 := by decide +kernel
theorem sh_0 : ∀ n, n < 17 → nI n >>> (nI 0 &&& 31) = nI n := by decide +kernel
theorem sl_0 : ∀ n, n < 17 → nI n <<< (nI 0 &&& 31) = nI n := by decide +kernel
theorem ct_J16_coder_c (g : Gv) (J : Jd g)  : Ct g yJ16_coder (ws_ yJ16_coder cJ16_coder 1 (some .byte)) 0 0 0 [.ref (gA g 6)] [] (fun (rv_ : Option Value) (rL_ : List va_W) => rv_ = some (.int (nI 0)) ∧ rL_ = []) noX := by
  refine Ct.of "java/lang/String" [some (.ref (gA g 6))] rfl (by decide) rfl (Nat.le_of_ble_eq_true rfl) rfl ?_
  intro κ B E tb
  refine g_gets (q := 3) B (J.2.2.1 _ (List.mem_of_getElem? (i := 1) rfl)) dJ16_coder_0 rfl q503 ?_
  refine g_if_eq (tgt := 13) (q := 6) B dJ16_coder_3 rfl (by decide) (iff_false_intro (by decide)) (fun z => z.elim) (fun _ => ?_)
  refine g_aload_n (q := 7) B dJ16_coder_6 rfl rfl (rv_r _) ?_
  refine g_getO (q := 10) B J.2.2.2.2.2.1.2.2.1 dJ16_coder_7 rfl q653 ?_
  refine (show Go g κ 10 [some (.ref (gA g 6))] [.int (nI 0)] [] 0 0 from ?_)
  refine g_goto (tgt := 14) B dJ16_coder_10 (by decide) ?_
  exact g_zret B E dJ16_coder_14 (by decide) (⟨rfl, rfl⟩)
theorem moJ16_coder : Mo yJ16_coder 0 := by
  refine ⟨by decide, by decide, by decide +kernel⟩
theorem ct_J16_length_c (g : Gv) (J : Jd g)  : Ct g yJ16_length (ws_ yJ16_length cJ16_length 1 (some .int)) 1 0 0 [.ref (gA g 6)] [] (fun (rv_ : Option Value) (rL_ : List va_W) => rv_ = some (.int (nI 1)) ∧ rL_ = []) noX := by
  refine Ct.of "java/lang/String" [some (.ref (gA g 6))] rfl (by decide) rfl (Nat.le_of_ble_eq_true rfl) rfl ?_
  intro κ B E tb
  refine g_aload_n (q := 1) B dJ16_length_0 rfl rfl (rv_r _) ?_
  refine g_getO (q := 4) B J.2.2.2.2.2.1.2.2.2.1 dJ16_length_1 rfl q652 ?_
  refine (show Go g κ 4 [some (.ref (gA g 6))] [.ref (gA g 7)] [] 0 0 from ?_)
  refine g_tlen (v := nI 1) (q := 5) B J.2.2.2.2.2.1.2.2.2.2 dJ16_length_4 rfl rfl ?_
  refine g_aload_n (q := 6) B dJ16_length_5 rfl rfl (rv_r _) ?_
  refine g_callV (q := 9) (is := []) (kc2 := 0) (ks2 := 0) B [] (ct_J16_coder_c g J   ) dJ16_length_6 rfl (rc_O B J.2.2.2.2.2.1.2.1) rfl q499 q500 q501 q99 q502 rfl rfl moJ16_coder rfl rfl (by decide) (by decide) (Nat.le_of_ble_eq_true rfl) (Nat.le_of_ble_eq_true rfl) (Nat.le_of_ble_eq_true rfl) (fun _ _ hx => noX_x hx) (fun v6 L1 hp6 => ?_)
  obtain ⟨rfl, rfl⟩ := hp6
  refine (show Go g κ 9 [some (.ref (gA g 6))] [.int (nI 0), .int (nI 1)] [] 0 0 from ?_)
  refine g_ishr (v := nI 1) (q := 10) B dJ16_length_9 rfl (by decide) ?_
  exact g_iret B E dJ16_length_10 (⟨rfl, rfl⟩)
theorem ct_J16_getBytes_c (g : Gv) (J : Jd g) {c : List Nat} {arr : Nat} (hc : c.length < 16) : Ct g yJ16_getBytes (ws_ yJ16_getBytes cJ16_getBytes 4 none) 1 0 0 [.ref (gA g 6), .ref arr, .int (nI c.length), .int (nI 0)] [[(arr, .inl (g.2.1 2, 16, .inl (byt c)))]] (fun (rv_ : Option Value) (rL_ : List va_W) => rv_ = none ∧ rL_ = [[(arr, .inl (g.2.1 2, 16, .inl (byt (c ++ [44]))))]]) noX := by
  refine Ct.of "java/lang/String" [some (.ref (gA g 6)), some (.ref arr), some (.int (nI c.length)), some (.int (nI 0))] rfl (by decide) rfl (Nat.le_of_ble_eq_true rfl) rfl ?_
  intro κ B E tb
  refine g_aload_n (q := 1) B dJ16_getBytes_0 rfl rfl (rv_r _) ?_
  refine g_callV (q := 4) (is := []) (kc2 := 0) (ks2 := 0) B [] (ct_J16_coder_c g J   ) dJ16_getBytes_1 rfl (rc_O B J.2.2.2.2.2.1.2.1) rfl q499 q500 q501 q99 q502 rfl rfl moJ16_coder rfl rfl (by decide) (by decide) (Nat.le_of_ble_eq_true rfl) (Nat.le_of_ble_eq_true rfl) (Nat.le_of_ble_eq_true rfl) (fun _ _ hx => noX_x hx) (fun v1 L1 hp1 => ?_)
  obtain ⟨rfl, rfl⟩ := hp1
  refine (show Go g κ 4 [some (.ref (gA g 6)), some (.ref arr), some (.int (nI c.length)), some (.int (nI 0))] [.int (nI 0)] [[(arr, .inl (g.2.1 2, 16, .inl (byt c)))]] 0 0 from ?_)
  refine g_iload_n (q := 5) B dJ16_getBytes_4 rfl rfl ?_
  refine g_icmp_ne (tgt := 28) (q := 8) B dJ16_getBytes_5 rfl (by decide) (iff_false_intro (by decide)) (fun z => z.elim) (fun _ => ?_)
  refine g_aload_n (q := 9) B dJ16_getBytes_8 rfl rfl (rv_r _) ?_
  refine g_getO (q := 12) B J.2.2.2.2.2.1.2.2.2.1 dJ16_getBytes_9 rfl q652 ?_
  refine (show Go g κ 12 [some (.ref (gA g 6)), some (.ref arr), some (.int (nI c.length)), some (.int (nI 0))] [.ref (gA g 7)] [[(arr, .inl (g.2.1 2, 16, .inl (byt c)))]] 0 0 from ?_)
  refine g_iconst (v := nI 0) (q := 13) B dJ16_getBytes_12 rfl (by decide) ?_
  refine g_aload_n (q := 14) B dJ16_getBytes_13 rfl rfl (rv_r _) ?_
  refine g_iload_n (q := 15) B dJ16_getBytes_14 rfl rfl ?_
  refine g_iload_n (q := 16) B dJ16_getBytes_15 rfl rfl ?_
  refine g_ishl (v := nI c.length) (q := 17) B dJ16_getBytes_16 rfl (sl_0 _ (by omega)) ?_
  refine g_aload_n (q := 18) B dJ16_getBytes_17 rfl rfl (rv_r _) ?_
  refine g_getO (q := 21) B J.2.2.2.2.2.1.2.2.2.1 dJ16_getBytes_18 rfl q652 ?_
  refine (show Go g κ 21 [some (.ref (gA g 6)), some (.ref arr), some (.int (nI c.length)), some (.int (nI 0))] [.ref (gA g 7), .int (nI c.length), .ref arr, .int (nI 0), .ref (gA g 7)] [[(arr, .inl (g.2.1 2, 16, .inl (byt c)))]] 0 0 from ?_)
  refine g_tlen (v := nI 1) (q := 22) B J.2.2.2.2.2.1.2.2.2.2 dJ16_getBytes_21 rfl rfl ?_
  refine g_copyT (q := 25) (L2 := [[(arr, .inl (g.2.1 2, 16, .inl (byt (c ++ [44]))))]]) (f := fun _ => 44) B (k1 := 0) ⟨q536, q463, q462, q95⟩ (J.2.2.2.2.2.1.2.2.2.2) rfl (by decide) (nI_pos (by omega)) (by decide) (by decide) (by rw [nI_clamp (by omega)]; show c.length + 1 ≤ 16; omega) (fun i _ => by decide) dJ16_getBytes_22 rfl rfl (Nat.le_of_ble_eq_true rfl) ?_ ?_
  · rw [show (nI c.length).toNatClampNeg = c.length from nI_clamp (by omega), show (nI 1).toNatClampNeg = 1 from rfl, show (nI 0).toNatClampNeg = 0 from rfl, byt_comma]
    rfl
  refine (show Go g κ 25 [some (.ref (gA g 6)), some (.ref arr), some (.int (nI c.length)), some (.int (nI 0))] [] [[(arr, .inl (g.2.1 2, 16, .inl (byt (c ++ [44]))))]] 0 0 from ?_)
  refine g_goto (tgt := 43) B dJ16_getBytes_25 (by decide) ?_
  exact g_vret B E dJ16_getBytes_43 (⟨rfl, rfl⟩)
/-- a StringBuilder at b with the text c (room 16) -/
def SbP (g : Gv) (b : Nat) (c : List Nat) (w : va_W) : Prop := ∃ arr ml : Nat, c.length ≤ 16 ∧ asc c ∧ ml < 2 ∧ w = ([[(b, .inr (37, [.ref arr, .int (nI 0), .int (nI ml), .int (nI c.length)]))], [(arr, .inl (g.2.1 2, 16, .inl (byt c)))]] : List va_W).flatten
theorem SbP.hm {g : Gv} {b : Nat} {c : List Nat} {w : va_W} (h : SbP g b c w) : ∃ fs, (b, .inr (37, fs)) ∈ w := by
  obtain ⟨arr, ml, -, -, -, rfl⟩ := h
  exact ⟨_, List.mem_cons_self⟩
/-- a String at s with the text c -/
def StrP (g : Gv) (s : Nat) (c : List Nat) (w : va_W) : Prop := ∃ (arr hz : Nat) (hh : Int32), asc c ∧ c.length < 16777216 ∧ (hh = 0 ∨ hh = nI (hN c)) ∧ (hz = 0 ∨ (hz = 1 ∧ nI (hN c) = 0)) ∧ w = ([[(s, .inr (36, [.ref arr, .int (nI 0), .int hh, .int (nI hz)]))], [(arr, .inl (g.2.1 2, c.length, .inl (byt c)))]] : List va_W).flatten
theorem StrP.hm {g : Gv} {s : Nat} {c : List Nat} {w : va_W} (h : StrP g s c w) : ∃ fs, (s, .inr (36, fs)) ∈ w := by
  obtain ⟨arr, hz, hh, -, -, -, -, rfl⟩ := h
  exact ⟨_, List.mem_cons_self⟩
theorem ct_J21_init (g : Gv) (J : Jd g) {b : Nat} : Ct g yJ21_init (ws_ yJ21_init cJ21_init 2 none) 1 1 16 [.ref b, .int (nI 16)] [[(b, .inr (37, [.null, .int (nI 0), .int (nI 0), .int (nI 0)]))]] (fun (rv_ : Option Value) (rL_ : List va_W) => ∃ (arr : Nat), rv_ = none ∧ rL_ = [[(b, .inr (37, [.ref arr, .int (nI 0), .int (nI 0), .int (nI 0)]))], [(arr, .inl (g.2.1 2, 16, .inl (fun _ => 0)))]]) noX := by
  refine Ct.ofI "java/lang/AbstractStringBuilder" [some (.ref b), some (.int (nI 16))] rfl (by decide) rfl (Nat.le_of_ble_eq_true rfl) rfl rfl ?_
  intro κ B E tb ini
  refine g_aload_n (q := 1) B dJ21_init_0 rfl rfl (rv_r _) ?_
  refine g_objInit (q := 4) B q393 q157 q158 dJ21_init_1 rfl rfl (Nat.le_of_ble_eq_true rfl) ?_
  refine g_gets (q := 7) B (J.2.2.1 _ (List.mem_of_getElem? (i := 1) rfl)) dJ21_init_4 rfl q394 ?_
  refine g_if_eq (tgt := 25) (q := 10) B dJ21_init_7 rfl (by decide) (iff_false_intro (by decide)) (fun z => z.elim) (fun _ => ?_)
  refine g_aload_n (q := 11) B dJ21_init_10 rfl rfl (rv_r _) ?_
  refine g_iload_n (q := 12) B dJ21_init_11 rfl rfl ?_
  refine g_newa (atype := .byte) (q := 14) (kc2 := 0) (ks2 := 0) (t := 2) (a0 := (16, .inl (fun _ => 0))) B q416 rfl rfl dJ21_init_12 rfl na_byte (by decide) rfl (by decide) (Nat.le_of_ble_eq_true rfl) (Nat.le_of_ble_eq_true rfl) (fun n12 => ?_)
  refine (show Go g κ 14 [some (.ref b), some (.int (nI 16))] [.ref n12, .ref b] [[(b, .inr (37, [.null, .int (nI 0), .int (nI 0), .int (nI 0)]))], [(n12, .inl (g.2.1 2, 16, .inl (fun _ => 0)))]] 0 0 from ?_)
  refine g_put (q := 17) (L2 := [[(b, .inr (37, [.ref n12, .int (nI 0), .int (nI 0), .int (nI 0)]))], [(n12, .inl (g.2.1 2, 16, .inl (fun _ => 0)))]]) B (ci := 37) (k := 0) (j := 0) in_J22 tyJ22 tyJ22_ok nmJ22 rfl dJ21_init_14 rfl rfl (Nat.le_of_ble_eq_true rfl) q403 rfl rfl rfl rfl (Nat.le_of_ble_eq_true rfl) rfl ?_
  refine g_aload_n (q := 18) B dJ21_init_17 rfl rfl (rv_r _) ?_
  refine g_iconst (v := nI 0) (q := 19) B dJ21_init_18 rfl (by decide) ?_
  refine g_put (q := 22) (L2 := [[(b, .inr (37, [.ref n12, .int (nI 0), .int (nI 0), .int (nI 0)]))], [(n12, .inl (g.2.1 2, 16, .inl (fun _ => 0)))]]) B (ci := 37) (k := 0) (j := 1) in_J22 tyJ22 tyJ22_ok nmJ22 rfl dJ21_init_19 rfl rfl (Nat.le_of_ble_eq_true rfl) q404 rfl rfl rfl rfl (Nat.le_of_ble_eq_true rfl) rfl ?_
  refine g_goto (tgt := 38) B dJ21_init_22 (by decide) ?_
  exact g_vret B E dJ21_init_38 (⟨n12, rfl, rfl⟩)
theorem moJ21_init : Mo yJ21_init 1 := by
  refine ⟨by decide, by decide, by decide +kernel⟩
theorem ct_J22_init (g : Gv) (J : Jd g) {b : Nat} : Ct g yJ22_init (ws_ yJ22_init cJ22_init 1 none) 2 1 16 [.ref b] [[(b, .inr (37, [.null, .int (nI 0), .int (nI 0), .int (nI 0)]))]] (fun (rv_ : Option Value) (rL_ : List va_W) => ∃ (u0 : va_W), rv_ = none ∧ rL_ = [u0] ∧ SbP g b ([]) u0) noX := by
  refine Ct.ofI "java/lang/StringBuilder" [some (.ref b)] rfl (by decide) rfl (Nat.le_of_ble_eq_true rfl) rfl rfl ?_
  intro κ B E tb ini
  refine g_aload_n (q := 1) B dJ22_init_0 rfl rfl (rv_r _) ?_
  refine g_bipush (v := nI 16) (q := 3) B dJ22_init_1 rfl (by decide) ?_
  refine g_callI (q := 6) (is := [0]) (kc2 := 0) (ks2 := 0) B [.int (nI 16)] (ct_J21_init g J (b := b)  ) dJ22_init_3 rfl rfl q390 q391 q106 q392 rfl rfl moJ21_init rfl rfl (by decide) (by decide) (Nat.le_of_ble_eq_true rfl) (Nat.le_of_ble_eq_true rfl) (Nat.le_of_ble_eq_true rfl) (fun _ _ hx => noX_x hx) (fun v3 L1 hp3 => ?_)
  obtain ⟨arr3, rfl, rfl⟩ := hp3
  refine (show Go g κ 6 [some (.ref b)] [] [[(b, .inr (37, [.ref arr3, .int (nI 0), .int (nI 0), .int (nI 0)]))], [(arr3, .inl (g.2.1 2, 16, .inl (fun _ => 0)))]] 0 0 from ?_)
  obtain ⟨wc_1, ewc_1⟩ : ∃ w : va_W, w = ([[(b, .inr (37, [.ref arr3, .int (nI 0), .int (nI 0), .int (nI 0)]))], [(arr3, .inl (g.2.1 2, 16, .inl (fun _ => 0)))]] : List va_W).flatten := ⟨_, rfl⟩
  have hwc_1 : SbP g b ([]) wc_1 := by
    rw [ewc_1]
    exact ⟨arr3, 0, by decide, (fun b h => absurd h (by simp)), by decide, rfl⟩
  refine g_close (w := wc_1) [0, 0] rfl ewc_1 rfl ?_
  refine (show Go g κ 6 [some (.ref b)] [] [wc_1] 0 0 from ?_)
  exact g_vret B E dJ22_init_6 (⟨wc_1, rfl, rfl, hwc_1⟩)
theorem ct_J21_isLatin1 (g : Gv) (J : Jd g) {b : Nat} {c : List Nat} {arr : Nat} {ml : Nat} : Ct g yJ21_isLatin1 (ws_ yJ21_isLatin1 cJ21_isLatin1 1 (some .boolean)) 0 0 0 [.ref b] [[(b, .inr (37, [.ref arr, .int (nI 0), .int (nI ml), .int (nI c.length)]))]] (fun (rv_ : Option Value) (rL_ : List va_W) => rv_ = some (.int (nI 1)) ∧ rL_ = [[(b, .inr (37, [.ref arr, .int (nI 0), .int (nI ml), .int (nI c.length)]))]]) noX := by
  refine Ct.of "java/lang/AbstractStringBuilder" [some (.ref b)] rfl (by decide) rfl (Nat.le_of_ble_eq_true rfl) rfl ?_
  intro κ B E tb
  refine g_gets (q := 3) B (J.2.2.1 _ (List.mem_of_getElem? (i := 1) rfl)) dJ21_isLatin1_0 rfl q394 ?_
  refine g_if_eq (tgt := 17) (q := 6) B dJ21_isLatin1_3 rfl (by decide) (iff_false_intro (by decide)) (fun z => z.elim) (fun _ => ?_)
  refine g_aload_n (q := 7) B dJ21_isLatin1_6 rfl rfl (rv_r _) ?_
  refine g_get (q := 10) B (ci := 37) (k := 0) (j := 1) in_J22 rfl dJ21_isLatin1_7 rfl rfl (Nat.le_of_ble_eq_true rfl) q404 rfl rfl ?_
  refine g_if_ne (tgt := 17) (q := 13) B dJ21_isLatin1_10 rfl (by decide) (iff_false_intro (by decide)) (fun z => z.elim) (fun _ => ?_)
  refine g_iconst (v := nI 1) (q := 14) B dJ21_isLatin1_13 rfl (by decide) ?_
  refine g_goto (tgt := 18) B dJ21_isLatin1_14 (by decide) ?_
  exact g_zret B E dJ21_isLatin1_18 (by decide) (⟨rfl, rfl⟩)
theorem ct_J21_ensureCapacityInternal (g : Gv) (J : Jd g) {b : Nat} {c : List Nat} {arr : Nat} {ml : Nat} {n : Nat} (hn : n ≤ 16) : Ct g yJ21_ensureCapacityInternal (ws_ yJ21_ensureCapacityInternal cJ21_ensureCapacityInternal 3 none) 0 0 0 [.ref b, .int (nI n)] [[(b, .inr (37, [.ref arr, .int (nI 0), .int (nI ml), .int (nI c.length)]))], [(arr, .inl (g.2.1 2, 16, .inl (byt c)))]] (fun (rv_ : Option Value) (rL_ : List va_W) => rv_ = none ∧ rL_ = [[(b, .inr (37, [.ref arr, .int (nI 0), .int (nI ml), .int (nI c.length)]))], [(arr, .inl (g.2.1 2, 16, .inl (byt c)))]]) noX := by
  refine Ct.of "java/lang/AbstractStringBuilder" [some (.ref b), some (.int (nI n)), none] rfl (by decide) rfl (Nat.le_of_ble_eq_true rfl) rfl ?_
  intro κ B E tb
  refine g_aload_n (q := 1) B dJ21_ensureCapacityInternal_0 rfl rfl (rv_r _) ?_
  refine g_get (q := 4) B (ci := 37) (k := 0) (j := 0) in_J22 rfl dJ21_ensureCapacityInternal_1 rfl rfl (Nat.le_of_ble_eq_true rfl) q403 rfl rfl ?_
  refine g_alen (v := nI 16) (q := 5) B (k := 1) (t := 2) dJ21_ensureCapacityInternal_4 rfl rfl rfl rfl ?_
  refine g_aload_n (q := 6) B dJ21_ensureCapacityInternal_5 rfl rfl (rv_r _) ?_
  refine g_get (q := 9) B (ci := 37) (k := 0) (j := 1) in_J22 rfl dJ21_ensureCapacityInternal_6 rfl rfl (Nat.le_of_ble_eq_true rfl) q404 rfl rfl ?_
  refine g_ishr (v := nI 16) (q := 10) B dJ21_ensureCapacityInternal_9 rfl (by decide) ?_
  refine g_istore_n (q := 11) (lv2 := [some (.ref b), some (.int (nI n)), some (.int (nI 16))]) B dJ21_ensureCapacityInternal_10 rfl (Nat.le_of_ble_eq_true rfl) rfl ?_
  refine g_iload_n (q := 12) B dJ21_ensureCapacityInternal_11 rfl rfl ?_
  refine g_iload_n (q := 13) B dJ21_ensureCapacityInternal_12 rfl rfl ?_
  refine g_isub (v := nI n - nI 16) (q := 14) B dJ21_ensureCapacityInternal_13 rfl rfl ?_
  refine g_if_le (tgt := 38) (q := 17) B dJ21_ensureCapacityInternal_14 rfl (by decide) (iff_true_intro (cap_16 _ (by omega))) (fun _ => ?_) (fun z => absurd trivial z)
  exact g_vret B E dJ21_ensureCapacityInternal_38 (⟨rfl, rfl⟩)
theorem ct_J21_inflateIfNeededFor (g : Gv) (J : Jd g) {b : Nat} {c : List Nat} {arr : Nat} {ml : Nat} : Ct g yJ21_inflateIfNeededFor (ws_ yJ21_inflateIfNeededFor cJ21_inflateIfNeededFor 2 none) 1 0 0 [.ref b, .ref (gA g 6)] [[(b, .inr (37, [.ref arr, .int (nI 0), .int (nI ml), .int (nI c.length)]))]] (fun (rv_ : Option Value) (rL_ : List va_W) => rv_ = none ∧ rL_ = [[(b, .inr (37, [.ref arr, .int (nI 0), .int (nI ml), .int (nI c.length)]))]]) noX := by
  refine Ct.of "java/lang/AbstractStringBuilder" [some (.ref b), some (.ref (gA g 6))] rfl (by decide) rfl (Nat.le_of_ble_eq_true rfl) rfl ?_
  intro κ B E tb
  refine g_gets (q := 3) B (J.2.2.1 _ (List.mem_of_getElem? (i := 1) rfl)) dJ21_inflateIfNeededFor_0 rfl q394 ?_
  refine g_if_eq (tgt := 21) (q := 6) B dJ21_inflateIfNeededFor_3 rfl (by decide) (iff_false_intro (by decide)) (fun z => z.elim) (fun _ => ?_)
  refine g_aload_n (q := 7) B dJ21_inflateIfNeededFor_6 rfl rfl (rv_r _) ?_
  refine g_get (q := 10) B (ci := 37) (k := 0) (j := 1) in_J22 rfl dJ21_inflateIfNeededFor_7 rfl rfl (Nat.le_of_ble_eq_true rfl) q404 rfl rfl ?_
  refine g_aload_n (q := 11) B dJ21_inflateIfNeededFor_10 rfl rfl (rv_r _) ?_
  refine g_callV (q := 14) (is := []) (kc2 := 0) (ks2 := 0) B [] (ct_J16_coder_c g J   ) dJ21_inflateIfNeededFor_11 rfl (rc_O B J.2.2.2.2.2.1.2.1) rfl q512 q500 q501 q99 q502 rfl rfl moJ16_coder rfl rfl (by decide) (by decide) (Nat.le_of_ble_eq_true rfl) (Nat.le_of_ble_eq_true rfl) (Nat.le_of_ble_eq_true rfl) (fun _ _ hx => noX_x hx) (fun v11 L1 hp11 => ?_)
  obtain ⟨rfl, rfl⟩ := hp11
  refine (show Go g κ 14 [some (.ref b), some (.ref (gA g 6))] [.int (nI 0), .int (nI 0)] [[(b, .inr (37, [.ref arr, .int (nI 0), .int (nI ml), .int (nI c.length)]))]] 0 0 from ?_)
  refine g_icmp_eq (tgt := 21) (q := 17) B dJ21_inflateIfNeededFor_14 rfl (by decide) (iff_true_intro (by decide)) (fun _ => ?_) (fun z => absurd trivial z)
  exact g_vret B E dJ21_inflateIfNeededFor_21 (⟨rfl, rfl⟩)
theorem moJ21_inflateIfNeededFor : Mo yJ21_inflateIfNeededFor 1 := by
  refine ⟨by decide, by decide, by decide +kernel⟩
theorem moJ16_getBytes : Mo yJ16_getBytes 3 := by
  refine ⟨by decide, by decide, by decide +kernel⟩
theorem ct_J21_putStringAt (g : Gv) (J : Jd g) {b : Nat} {c : List Nat} {arr : Nat} {ml : Nat} (hc : c.length < 16) : Ct g yJ21_putStringAt (ws_ yJ21_putStringAt cJ21_putStringAt 3 none) 2 0 0 [.ref b, .int (nI c.length), .ref (gA g 6)] [[(b, .inr (37, [.ref arr, .int (nI 0), .int (nI ml), .int (nI c.length)]))], [(arr, .inl (g.2.1 2, 16, .inl (byt c)))]] (fun (rv_ : Option Value) (rL_ : List va_W) => rv_ = none ∧ rL_ = [[(b, .inr (37, [.ref arr, .int (nI 0), .int (nI ml), .int (nI c.length)]))], [(arr, .inl (g.2.1 2, 16, .inl (byt (c ++ [44]))))]]) noX := by
  refine Ct.of "java/lang/AbstractStringBuilder" [some (.ref b), some (.int (nI c.length)), some (.ref (gA g 6))] rfl (by decide) rfl (Nat.le_of_ble_eq_true rfl) rfl ?_
  intro κ B E tb
  refine g_aload_n (q := 1) B dJ21_putStringAt_0 rfl rfl (rv_r _) ?_
  refine g_aload_n (q := 2) B dJ21_putStringAt_1 rfl rfl (rv_r _) ?_
  refine g_callP (q := 5) (is := [0]) (kc2 := 0) (ks2 := 0) B [.ref (gA g 6)] (ct_J21_inflateIfNeededFor g J (b := b) (c := c) (arr := arr) (ml := ml)  ) dJ21_putStringAt_2 rfl (rc_at B (ci := 37) rfl (k := 0) rfl) rfl (by decide) rfl q508 q3660 q386 q509 q467 rfl q510 q106 q511 rfl rfl moJ21_inflateIfNeededFor rfl rfl (by decide) (by decide) (Nat.le_of_ble_eq_true rfl) (Nat.le_of_ble_eq_true rfl) (Nat.le_of_ble_eq_true rfl) (fun _ _ hx => noX_x hx) (fun v2 L1 hp2 => ?_)
  obtain ⟨rfl, rfl⟩ := hp2
  refine (show Go g κ 5 [some (.ref b), some (.int (nI c.length)), some (.ref (gA g 6))] [] [[(arr, .inl (g.2.1 2, 16, .inl (byt c)))], [(b, .inr (37, [.ref arr, .int (nI 0), .int (nI ml), .int (nI c.length)]))]] 0 0 from ?_)
  refine g_aload_n (q := 6) B dJ21_putStringAt_5 rfl rfl (rv_r _) ?_
  refine g_aload_n (q := 7) B dJ21_putStringAt_6 rfl rfl (rv_r _) ?_
  refine g_get (q := 10) B (ci := 37) (k := 1) (j := 0) in_J22 rfl dJ21_putStringAt_7 rfl rfl (Nat.le_of_ble_eq_true rfl) q403 rfl rfl ?_
  refine g_iload_n (q := 11) B dJ21_putStringAt_10 rfl rfl ?_
  refine g_aload_n (q := 12) B dJ21_putStringAt_11 rfl rfl (rv_r _) ?_
  refine g_get (q := 15) B (ci := 37) (k := 1) (j := 1) in_J22 rfl dJ21_putStringAt_12 rfl rfl (Nat.le_of_ble_eq_true rfl) q404 rfl rfl ?_
  refine g_callV (q := 18) (is := [0]) (kc2 := 0) (ks2 := 0) B [.ref arr, .int (nI c.length), .int (nI 0)] (ct_J16_getBytes_c g J (c := c) (arr := arr)  (by first | assumption | omega | rfl)) dJ21_putStringAt_15 rfl (rc_O B J.2.2.2.2.2.1.2.1) rfl q532 q533 q534 q99 q535 rfl rfl moJ16_getBytes rfl rfl (by decide) (by decide) (Nat.le_of_ble_eq_true rfl) (Nat.le_of_ble_eq_true rfl) (Nat.le_of_ble_eq_true rfl) (fun _ _ hx => noX_x hx) (fun v15 L1 hp15 => ?_)
  obtain ⟨rfl, rfl⟩ := hp15
  refine (show Go g κ 18 [some (.ref b), some (.int (nI c.length)), some (.ref (gA g 6))] [] [[(b, .inr (37, [.ref arr, .int (nI 0), .int (nI ml), .int (nI c.length)]))], [(arr, .inl (g.2.1 2, 16, .inl (byt (c ++ [44]))))]] 0 0 from ?_)
  exact g_vret B E dJ21_putStringAt_18 (⟨rfl, rfl⟩)
theorem moJ16_length : Mo yJ16_length 0 := by
  refine ⟨by decide, by decide, by decide +kernel⟩
theorem moJ21_ensureCapacityInternal : Mo yJ21_ensureCapacityInternal 1 := by
  refine ⟨by decide, by decide, by decide +kernel⟩
theorem moJ21_putStringAt : Mo yJ21_putStringAt 2 := by
  refine ⟨by decide, by decide, by decide +kernel⟩
theorem ct_J21_append (g : Gv) (J : Jd g) {b : Nat} {c : List Nat} {arr : Nat} {ml : Nat} (hc : c.length < 16) : Ct g yJ21_append (ws_ yJ21_append cJ21_append 3 (some (.object "java/lang/AbstractStringBuilder"))) 3 0 0 [.ref b, .ref (gA g 6)] [[(b, .inr (37, [.ref arr, .int (nI 0), .int (nI ml), .int (nI c.length)]))], [(arr, .inl (g.2.1 2, 16, .inl (byt c)))]] (fun (rv_ : Option Value) (rL_ : List va_W) => rv_ = some (.ref b) ∧ rL_ = [[(b, .inr (37, [.ref arr, .int (nI 0), .int (nI ml), .int (nI (c.length + 1))]))], [(arr, .inl (g.2.1 2, 16, .inl (byt (c ++ [44]))))]]) noX := by
  refine Ct.of "java/lang/AbstractStringBuilder" [some (.ref b), some (.ref (gA g 6)), none] rfl (by decide) rfl (Nat.le_of_ble_eq_true rfl) rfl ?_
  intro κ B E tb
  refine g_aload_n (q := 1) B dJ21_append_0 rfl rfl (rv_r _) ?_
  refine g_ifnonnull_r (tgt := 9) B dJ21_append_1 (by decide) ?_
  refine g_aload_n (q := 10) B dJ21_append_9 rfl rfl (rv_r _) ?_
  refine g_callV (q := 13) (is := []) (kc2 := 0) (ks2 := 0) B [] (ct_J16_length_c g J   ) dJ21_append_10 rfl (rc_O B J.2.2.2.2.2.1.2.1) rfl q495 q496 q497 q99 q498 rfl rfl moJ16_length rfl rfl (by decide) (by decide) (Nat.le_of_ble_eq_true rfl) (Nat.le_of_ble_eq_true rfl) (Nat.le_of_ble_eq_true rfl) (fun _ _ hx => noX_x hx) (fun v10 L1 hp10 => ?_)
  obtain ⟨rfl, rfl⟩ := hp10
  refine (show Go g κ 13 [some (.ref b), some (.ref (gA g 6)), none] [.int (nI 1)] [[(b, .inr (37, [.ref arr, .int (nI 0), .int (nI ml), .int (nI c.length)]))], [(arr, .inl (g.2.1 2, 16, .inl (byt c)))]] 0 0 from ?_)
  refine g_istore_n (q := 14) (lv2 := [some (.ref b), some (.ref (gA g 6)), some (.int (nI 1))]) B dJ21_append_13 rfl (Nat.le_of_ble_eq_true rfl) rfl ?_
  refine g_aload_n (q := 15) B dJ21_append_14 rfl rfl (rv_r _) ?_
  refine g_aload_n (q := 16) B dJ21_append_15 rfl rfl (rv_r _) ?_
  refine g_get (q := 19) B (ci := 37) (k := 0) (j := 3) in_J22 rfl dJ21_append_16 rfl rfl (Nat.le_of_ble_eq_true rfl) q406 rfl rfl ?_
  refine g_iload_n (q := 20) B dJ21_append_19 rfl rfl ?_
  refine g_iadd (v := nI (c.length + 1)) (q := 21) B dJ21_append_20 rfl (nI_add _ _) ?_
  refine g_callP (q := 24) (is := [0, 0]) (kc2 := 0) (ks2 := 0) B [.int (nI (c.length + 1))] (ct_J21_ensureCapacityInternal g J (b := b) (c := c) (arr := arr) (ml := ml) (n := c.length + 1)  (by first | assumption | omega | rfl)) dJ21_append_21 rfl (rc_at B (ci := 37) rfl (k := 0) rfl) rfl (by decide) rfl q429 q3657 q386 q430 q467 rfl q431 q106 q432 rfl rfl moJ21_ensureCapacityInternal rfl rfl (by decide) (by decide) (Nat.le_of_ble_eq_true rfl) (Nat.le_of_ble_eq_true rfl) (Nat.le_of_ble_eq_true rfl) (fun _ _ hx => noX_x hx) (fun v21 L1 hp21 => ?_)
  obtain ⟨rfl, rfl⟩ := hp21
  refine (show Go g κ 24 [some (.ref b), some (.ref (gA g 6)), some (.int (nI 1))] [] [[(b, .inr (37, [.ref arr, .int (nI 0), .int (nI ml), .int (nI c.length)]))], [(arr, .inl (g.2.1 2, 16, .inl (byt c)))]] 0 0 from ?_)
  refine g_aload_n (q := 25) B dJ21_append_24 rfl rfl (rv_r _) ?_
  refine g_aload_n (q := 26) B dJ21_append_25 rfl rfl (rv_r _) ?_
  refine g_get (q := 29) B (ci := 37) (k := 0) (j := 3) in_J22 rfl dJ21_append_26 rfl rfl (Nat.le_of_ble_eq_true rfl) q406 rfl rfl ?_
  refine g_aload_n (q := 30) B dJ21_append_29 rfl rfl (rv_r _) ?_
  refine g_callP (q := 33) (is := [0, 0]) (kc2 := 0) (ks2 := 0) B [.int (nI c.length), .ref (gA g 6)] (ct_J21_putStringAt g J (b := b) (c := c) (arr := arr) (ml := ml)  (by first | assumption | omega | rfl)) dJ21_append_30 rfl (rc_at B (ci := 37) rfl (k := 0) rfl) rfl (by decide) rfl q504 q3659 q386 q505 q467 rfl q506 q106 q507 rfl rfl moJ21_putStringAt rfl rfl (by decide) (by decide) (Nat.le_of_ble_eq_true rfl) (Nat.le_of_ble_eq_true rfl) (Nat.le_of_ble_eq_true rfl) (fun _ _ hx => noX_x hx) (fun v30 L1 hp30 => ?_)
  obtain ⟨rfl, rfl⟩ := hp30
  refine (show Go g κ 33 [some (.ref b), some (.ref (gA g 6)), some (.int (nI 1))] [] [[(b, .inr (37, [.ref arr, .int (nI 0), .int (nI ml), .int (nI c.length)]))], [(arr, .inl (g.2.1 2, 16, .inl (byt (c ++ [44]))))]] 0 0 from ?_)
  refine g_aload_n (q := 34) B dJ21_append_33 rfl rfl (rv_r _) ?_
  refine g_dup (q := 35) B dJ21_append_34 rfl rfl ?_
  refine g_get (q := 38) B (ci := 37) (k := 0) (j := 3) in_J22 rfl dJ21_append_35 rfl rfl (Nat.le_of_ble_eq_true rfl) q406 rfl rfl ?_
  refine g_iload_n (q := 39) B dJ21_append_38 rfl rfl ?_
  refine g_iadd (v := nI (c.length + 1)) (q := 40) B dJ21_append_39 rfl (nI_add _ _) ?_
  refine g_put (q := 43) (L2 := [[(b, .inr (37, [.ref arr, .int (nI 0), .int (nI ml), .int (nI (c.length + 1))]))], [(arr, .inl (g.2.1 2, 16, .inl (byt (c ++ [44]))))]]) B (ci := 37) (k := 0) (j := 3) in_J22 tyJ22 tyJ22_ok nmJ22 rfl dJ21_append_40 rfl rfl (Nat.le_of_ble_eq_true rfl) q406 rfl rfl rfl rfl (Nat.le_of_ble_eq_true rfl) rfl ?_
  refine g_aload_n (q := 44) B dJ21_append_43 rfl rfl (rv_r _) ?_
  exact g_aret B E dJ21_append_44 (by first | exact Or.inl ⟨_, rfl⟩ | exact Or.inr ⟨_, rfl⟩) (rv_r _) (⟨rfl, rfl⟩)
theorem ct_J26_stringSize (g : Gv) (J : Jd g) {k : Nat} (hk : k < 1000) : Ct g yJ26_stringSize (ws_ yJ26_stringSize cJ26_stringSize 4 (some .int)) 0 0 0 [.int (nI k)] [] (fun (rv_ : Option Value) (rL_ : List va_W) => rv_ = some (.int (nI (dln k))) ∧ rL_ = []) noX := by
  refine Ct.of "java/lang/Integer" [some (.int (nI k)), none, none, none] rfl (by decide) rfl (Nat.le_of_ble_eq_true rfl) rfl ?_
  intro κ B E tb
  refine g_iconst (v := nI 1) (q := 1) B dJ26_stringSize_0 rfl (by decide) ?_
  refine g_istore_n (q := 2) (lv2 := [some (.int (nI k)), some (.int (nI 1)), none, none]) B dJ26_stringSize_1 rfl (Nat.le_of_ble_eq_true rfl) rfl ?_
  refine g_iload_n (q := 3) B dJ26_stringSize_2 rfl rfl ?_
  refine g_if_lt (tgt := 11) (q := 6) B dJ26_stringSize_3 rfl (by decide) (iff_false_intro (gc_0 k hk)) (fun z => z.elim) (fun _ => ?_)
  refine g_iconst (v := nI 0) (q := 7) B dJ26_stringSize_6 rfl (by decide) ?_
  refine g_istore_n (q := 8) (lv2 := [some (.int (nI k)), some (.int (nI 0)), none, none]) B dJ26_stringSize_7 rfl (Nat.le_of_ble_eq_true rfl) rfl ?_
  refine g_iload_n (q := 9) B dJ26_stringSize_8 rfl rfl ?_
  refine g_ineg (v := -nI k) (q := 10) B dJ26_stringSize_9 rfl rfl ?_
  refine g_istore_n (q := 11) (lv2 := [some (.int (-nI k)), some (.int (nI 0)), none, none]) B dJ26_stringSize_10 rfl (Nat.le_of_ble_eq_true rfl) rfl ?_
  refine g_bipush (v := -10) (q := 13) B dJ26_stringSize_11 rfl (by decide) ?_
  refine g_istore_n (q := 14) (lv2 := [some (.int (-nI k)), some (.int (nI 0)), some (.int (-10)), none]) B dJ26_stringSize_13 rfl (Nat.le_of_ble_eq_true rfl) rfl ?_
  refine g_iconst (v := nI 1) (q := 15) B dJ26_stringSize_14 rfl (by decide) ?_
  refine g_istore_n (q := 16) (lv2 := [some (.int (-nI k)), some (.int (nI 0)), some (.int (-10)), some (.int (nI 1))]) B dJ26_stringSize_15 rfl (Nat.le_of_ble_eq_true rfl) rfl ?_
  refine g_iload_n (q := 17) B dJ26_stringSize_16 rfl rfl ?_
  refine g_bipush (v := nI 10) (q := 19) B dJ26_stringSize_17 rfl (by decide) ?_
  refine g_icmp_ge (tgt := 42) (q := 22) B dJ26_stringSize_19 rfl (by decide) (iff_false_intro (by decide)) (fun z => z.elim) (fun _ => ?_)
  refine g_iload_n (q := 23) B dJ26_stringSize_22 rfl rfl ?_
  refine g_iload_n (q := 24) B dJ26_stringSize_23 rfl rfl ?_
  refine g_icmp_le (tgt := 31) (q := 27) B dJ26_stringSize_24 rfl (by decide) (ss_1 k hk) (fun c24 => ?_) (fun c24 => ?_)
  · skip
    refine g_bipush (v := nI 10) (q := 33) B dJ26_stringSize_31 rfl (by decide) ?_
    refine g_iload_n (q := 34) B dJ26_stringSize_33 rfl rfl ?_
    refine g_imul (v := -100) (q := 35) B dJ26_stringSize_34 rfl (by decide) ?_
    refine g_istore_n (q := 36) (lv2 := [some (.int (-nI k)), some (.int (nI 0)), some (.int (-100)), some (.int (nI 1))]) B dJ26_stringSize_35 rfl (Nat.le_of_ble_eq_true rfl) rfl ?_
    refine g_iinc (v := nI 2) (q := 39) (lv2 := [some (.int (-nI k)), some (.int (nI 0)), some (.int (-100)), some (.int (nI 2))]) B dJ26_stringSize_36 rfl rfl (nI_add _ 1) (Nat.le_of_ble_eq_true rfl) rfl ?_
    refine g_goto (tgt := 16) B dJ26_stringSize_39 (by decide) ?_
    refine g_iload_n (q := 17) B dJ26_stringSize_16 rfl rfl ?_
    refine g_bipush (v := nI 10) (q := 19) B dJ26_stringSize_17 rfl (by decide) ?_
    refine g_icmp_ge (tgt := 42) (q := 22) B dJ26_stringSize_19 rfl (by decide) (iff_false_intro (by decide)) (fun z => z.elim) (fun _ => ?_)
    refine g_iload_n (q := 23) B dJ26_stringSize_22 rfl rfl ?_
    refine g_iload_n (q := 24) B dJ26_stringSize_23 rfl rfl ?_
    refine g_icmp_le (tgt := 31) (q := 27) B dJ26_stringSize_24 rfl (by decide) (ss_2 k hk) (fun c24 => ?_) (fun c24 => ?_)
    · skip
      refine g_bipush (v := nI 10) (q := 33) B dJ26_stringSize_31 rfl (by decide) ?_
      refine g_iload_n (q := 34) B dJ26_stringSize_33 rfl rfl ?_
      refine g_imul (v := -1000) (q := 35) B dJ26_stringSize_34 rfl (by decide) ?_
      refine g_istore_n (q := 36) (lv2 := [some (.int (-nI k)), some (.int (nI 0)), some (.int (-1000)), some (.int (nI 2))]) B dJ26_stringSize_35 rfl (Nat.le_of_ble_eq_true rfl) rfl ?_
      refine g_iinc (v := nI 3) (q := 39) (lv2 := [some (.int (-nI k)), some (.int (nI 0)), some (.int (-1000)), some (.int (nI 3))]) B dJ26_stringSize_36 rfl rfl (nI_add _ 1) (Nat.le_of_ble_eq_true rfl) rfl ?_
      refine g_goto (tgt := 16) B dJ26_stringSize_39 (by decide) ?_
      refine g_iload_n (q := 17) B dJ26_stringSize_16 rfl rfl ?_
      refine g_bipush (v := nI 10) (q := 19) B dJ26_stringSize_17 rfl (by decide) ?_
      refine g_icmp_ge (tgt := 42) (q := 22) B dJ26_stringSize_19 rfl (by decide) (iff_false_intro (by decide)) (fun z => z.elim) (fun _ => ?_)
      refine g_iload_n (q := 23) B dJ26_stringSize_22 rfl rfl ?_
      refine g_iload_n (q := 24) B dJ26_stringSize_23 rfl rfl ?_
      refine g_icmp_le (tgt := 31) (q := 27) B dJ26_stringSize_24 rfl (by decide) (iff_false_intro (ss_3 k hk)) (fun z => z.elim) (fun _ => ?_)
      refine g_iload_n (q := 28) B dJ26_stringSize_27 rfl rfl ?_
      refine g_iload_n (q := 29) B dJ26_stringSize_28 rfl rfl ?_
      refine g_iadd (v := nI (dln k)) (q := 30) B dJ26_stringSize_29 rfl (by unfold dln; first | (rw [if_pos (by omega)]; rfl) | (rw [if_neg (by omega), if_pos (by omega)]; rfl) | (rw [if_neg (by omega), if_neg (by omega)]; rfl)) ?_
      exact g_iret B E dJ26_stringSize_30 (⟨rfl, rfl⟩)
    · skip
      refine g_iload_n (q := 28) B dJ26_stringSize_27 rfl rfl ?_
      refine g_iload_n (q := 29) B dJ26_stringSize_28 rfl rfl ?_
      refine g_iadd (v := nI (dln k)) (q := 30) B dJ26_stringSize_29 rfl (by unfold dln; first | (rw [if_pos (by omega)]; rfl) | (rw [if_neg (by omega), if_pos (by omega)]; rfl) | (rw [if_neg (by omega), if_neg (by omega)]; rfl)) ?_
      exact g_iret B E dJ26_stringSize_30 (⟨rfl, rfl⟩)
  · skip
    refine g_iload_n (q := 28) B dJ26_stringSize_27 rfl rfl ?_
    refine g_iload_n (q := 29) B dJ26_stringSize_28 rfl rfl ?_
    refine g_iadd (v := nI (dln k)) (q := 30) B dJ26_stringSize_29 rfl (by unfold dln; first | (rw [if_pos (by omega)]; rfl) | (rw [if_neg (by omega), if_pos (by omega)]; rfl) | (rw [if_neg (by omega), if_neg (by omega)]; rfl)) ?_
    exact g_iret B E dJ26_stringSize_30 (⟨rfl, rfl⟩)
/-- c, zeros up to n, then t -/
def btg (c : List Nat) (n : Nat) (t : List Nat) : Nat → Int32 := fun i => if i < n then nI (c.getD i 0) else nI (t.getD (i - n) 0)
theorem btg_0 {c : List Nat} {n : Nat} (h : c.length ≤ n) : byt c = btg c n [] := by
  funext i
  unfold byt btg
  split
  · rfl
  · rw [List.getD_eq_getElem?_getD, List.getElem?_eq_none (by omega)]; simp
theorem btg_s {c t : List Nat} {N n b : Nat} (hN : N = n + 1) (hb : b < 128) (hn : c.length ≤ n) : upd (btg c N t) n (vp_nar .byte (nI b)) = btg c n (b :: t) := by
  subst hN
  funext i
  unfold upd btg
  rw [by_nar b hb]
  by_cases h : i = n
  · subst h; simp
  · rw [if_neg h]
    rcases Nat.lt_or_ge i n with q | q
    · rw [if_pos (by omega), if_pos q]
    · rw [if_neg (by omega), if_neg (by omega), show i - n = (i - (n + 1)) + 1 by omega]; simp
theorem btg_e {c t : List Nat} {n : Nat} (h : c.length = n) : btg c n t = byt (c ++ t) := by
  funext i
  unfold btg byt
  split
  · rw [List.getD_eq_getElem?_getD, List.getD_eq_getElem?_getD, List.getElem?_append_left (by omega)]
  · rw [List.getD_eq_getElem?_getD, List.getD_eq_getElem?_getD, List.getElem?_append_right (by omega), h]
theorem pk_sub1 {n : Nat} (h : 1 ≤ n) : nI n + Int32.ofInt (-1) = nI (n - 1) := by
  obtain ⟨m, rfl⟩ : ∃ m, n = m + 1 := ⟨n - 1, by omega⟩
  rw [← nI_add, Int32.add_assoc, show nI 1 + Int32.ofInt (-1) = 0 by decide, Int32.add_zero]
  rfl
theorem ct_J26_getChars (g : Gv) (J : Jd g) {k : Nat} {c : List Nat} {arr : Nat} (hk : k < 1000) (hc : c.length + dln k ≤ 16) : Ct g yJ26_getChars (ws_ yJ26_getChars cJ26_getChars 7 (some .int)) 0 0 0 [.int (nI k), .int (nI (c.length + dln k)), .ref arr] [[(arr, .inl (g.2.1 2, 16, .inl (byt c)))]] (fun (rv_ : Option Value) (rL_ : List va_W) => ∃ (z : Int32), rv_ = some (.int z) ∧ rL_ = [[(arr, .inl (g.2.1 2, 16, .inl (byt (c ++ dec k))))]]) noX := by
  refine Ct.of "java/lang/Integer" [some (.int (nI k)), some (.int (nI (c.length + dln k))), some (.ref arr), none, none, none, none] rfl (by decide) rfl (Nat.le_of_ble_eq_true rfl) rfl ?_
  intro κ B E tb
  rw [btg_0 (c := c) (n := c.length + dln k) (by omega)]
  have hdl := dln_cs k
  refine (show Go g κ 0 [some (.int (nI k)), some (.int (nI (c.length + dln k))), some (.ref arr), none, none, none, none] [] [[(arr, .inl (g.2.1 2, 16, .inl (btg c (c.length + dln k) [])))]] 0 0 from ?_)
  refine g_iload_n (q := 1) B dJ26_getChars_0 rfl rfl ?_
  refine g_istore (q := 3) (lv2 := [some (.int (nI k)), some (.int (nI (c.length + dln k))), some (.ref arr), none, none, some (.int (nI (c.length + dln k))), none]) B dJ26_getChars_1 rfl (Nat.le_of_ble_eq_true rfl) rfl ?_
  refine g_iload_n (q := 4) B dJ26_getChars_3 rfl rfl ?_
  refine g_if_ge (tgt := 11) (q := 7) B dJ26_getChars_4 rfl (by decide) (iff_true_intro (nI_pos' (by omega))) (fun _ => ?_) (fun z => absurd trivial z)
  refine g_iconst (v := nI 0) (q := 12) B dJ26_getChars_11 rfl (by decide) ?_
  refine g_istore (q := 14) (lv2 := [some (.int (nI k)), some (.int (nI (c.length + dln k))), some (.ref arr), none, none, some (.int (nI (c.length + dln k))), some (.int (nI 0))]) B dJ26_getChars_12 rfl (Nat.le_of_ble_eq_true rfl) rfl ?_
  refine g_iload (q := 16) B dJ26_getChars_14 rfl rfl ?_
  refine g_if_ne (tgt := 22) (q := 19) B dJ26_getChars_16 rfl (by decide) (iff_false_intro (by decide)) (fun z => z.elim) (fun _ => ?_)
  refine g_iload_n (q := 20) B dJ26_getChars_19 rfl rfl ?_
  refine g_ineg (v := -nI k) (q := 21) B dJ26_getChars_20 rfl rfl ?_
  refine g_istore_n (q := 22) (lv2 := [some (.int (-nI k)), some (.int (nI (c.length + dln k))), some (.ref arr), none, none, some (.int (nI (c.length + dln k))), some (.int (nI 0))]) B dJ26_getChars_21 rfl (Nat.le_of_ble_eq_true rfl) rfl ?_
  refine g_iload_n (q := 23) B dJ26_getChars_22 rfl rfl ?_
  refine g_bipush (v := -100) (q := 25) B dJ26_getChars_23 rfl (by decide) ?_
  refine g_icmp_gt (tgt := 72) (q := 28) B dJ26_getChars_25 rfl (by decide) (gc_1 k hk) (fun c25 => ?_) (fun c25 => ?_)
  · skip
    refine g_aload_n (q := 73) B dJ26_getChars_72 rfl rfl (rv_r _) ?_
    refine g_iinc (v := nI ((c.length + dln k) - 1)) (q := 76) (lv2 := [some (.int (-nI k)), some (.int (nI (c.length + dln k))), some (.ref arr), none, none, some (.int (nI ((c.length + dln k) - 1))), some (.int (nI 0))]) B dJ26_getChars_73 rfl rfl (pk_sub1 (by omega)) (Nat.le_of_ble_eq_true rfl) rfl ?_
    refine g_iload (q := 78) B dJ26_getChars_76 rfl rfl ?_
    refine g_gets (q := 81) B J.2.2.2.1.1 dJ26_getChars_78 rfl q551 ?_
    refine g_iload_n (q := 82) B dJ26_getChars_81 rfl rfl ?_
    refine g_ineg (v := nI k) (q := 83) B dJ26_getChars_82 rfl (gc_n _ (by omega)) ?_
    refine g_tb (v := .int (nI (48 + k % 10))) (q := 84) B J.2.2.2.1.2.1 dJ26_getChars_83 rfl (vp_in_nI (by omega) (by omega)) (by show Value.int (nI (48 + (nI k).toNatClampNeg % 10)) = _; rw [nI_clamp (by omega)]) ?_
    refine (show Go g κ 84 [some (.int (-nI k)), some (.int (nI (c.length + dln k))), some (.ref arr), none, none, some (.int (nI ((c.length + dln k) - 1))), some (.int (nI 0))] [.int (nI (48 + k % 10)), .int (nI ((c.length + dln k) - 1)), .ref arr] [[(arr, .inl (g.2.1 2, 16, .inl (btg c (c.length + dln k) [])))]] 0 0 from ?_)
    refine g_bast (q := 85) (L2 := [[(arr, .inl (g.2.1 2, 16, .inl (btg c ((c.length + dln k) - 1) ((48 + k % 10) :: []))))]]) B (k := 0) dJ26_getChars_84 rfl rfl (vp_in_nI (by omega) (by omega)) ?_ ?_
    · rw [nI_clamp (by omega), btg_s (by omega) (by omega) (by omega)]
      rfl
    refine (show Go g κ 85 [some (.int (-nI k)), some (.int (nI (c.length + dln k))), some (.ref arr), none, none, some (.int (nI ((c.length + dln k) - 1))), some (.int (nI 0))] [] [[(arr, .inl (g.2.1 2, 16, .inl (btg c ((c.length + dln k) - 1) ((48 + k % 10) :: []))))]] 0 0 from ?_)
    refine g_iload_n (q := 86) B dJ26_getChars_85 rfl rfl ?_
    refine g_bipush (v := -9) (q := 88) B dJ26_getChars_86 rfl (by decide) ?_
    refine g_icmp_ge (tgt := 104) (q := 91) B dJ26_getChars_88 rfl (by decide) (gc_9 _ (by omega)) (fun c88 => ?_) (fun c88 => ?_)
    · skip
      refine g_iload (q := 106) B dJ26_getChars_104 rfl rfl ?_
      refine g_if_eq (tgt := 118) (q := 109) B dJ26_getChars_106 rfl (by decide) (iff_true_intro (by decide)) (fun _ => ?_) (fun z => absurd trivial z)
      refine g_iload (q := 120) B dJ26_getChars_118 rfl rfl ?_
      rw [show btg c ((c.length + dln k) - 1) ((48 + k % 10) :: []) = byt (c ++ dec k) by
        rw [btg_e (by omega)]
        congr 2
        unfold dec
        first | (rw [if_pos (by omega)] <;> simp <;> omega) | (rw [if_neg (by omega), if_pos (by omega)] <;> simp <;> omega) | (rw [if_neg (by omega), if_neg (by omega)] <;> simp <;> omega)]
      refine (show Go g κ 120 [some (.int (-nI k)), some (.int (nI (c.length + dln k))), some (.ref arr), none, none, some (.int (nI ((c.length + dln k) - 1))), some (.int (nI 0))] [.int (nI ((c.length + dln k) - 1))] [[(arr, .inl (g.2.1 2, 16, .inl (byt (c ++ dec k))))]] 0 0 from ?_)
      exact g_iret B E dJ26_getChars_120 (⟨_, rfl, rfl⟩)
    · skip
      refine g_aload_n (q := 92) B dJ26_getChars_91 rfl rfl (rv_r _) ?_
      refine g_iinc (v := nI (((c.length + dln k) - 1) - 1)) (q := 95) (lv2 := [some (.int (-nI k)), some (.int (nI (c.length + dln k))), some (.ref arr), none, none, some (.int (nI (((c.length + dln k) - 1) - 1))), some (.int (nI 0))]) B dJ26_getChars_92 rfl rfl (pk_sub1 (by omega)) (Nat.le_of_ble_eq_true rfl) rfl ?_
      refine g_iload (q := 97) B dJ26_getChars_95 rfl rfl ?_
      refine g_gets (q := 100) B J.2.2.2.1.2.2.1 dJ26_getChars_97 rfl q553 ?_
      refine g_iload_n (q := 101) B dJ26_getChars_100 rfl rfl ?_
      refine g_ineg (v := nI k) (q := 102) B dJ26_getChars_101 rfl (gc_n _ (by omega)) ?_
      refine g_tb (v := .int (nI (48 + k / 10))) (q := 103) B J.2.2.2.1.2.2.2 dJ26_getChars_102 rfl (vp_in_nI (by omega) (by omega)) (by show Value.int (nI (48 + (nI k).toNatClampNeg / 10)) = _; rw [nI_clamp (by omega)]) ?_
      refine (show Go g κ 103 [some (.int (-nI k)), some (.int (nI (c.length + dln k))), some (.ref arr), none, none, some (.int (nI (((c.length + dln k) - 1) - 1))), some (.int (nI 0))] [.int (nI (48 + k / 10)), .int (nI (((c.length + dln k) - 1) - 1)), .ref arr] [[(arr, .inl (g.2.1 2, 16, .inl (btg c ((c.length + dln k) - 1) ((48 + k % 10) :: []))))]] 0 0 from ?_)
      refine g_bast (q := 104) (L2 := [[(arr, .inl (g.2.1 2, 16, .inl (btg c (((c.length + dln k) - 1) - 1) ((48 + k / 10) :: ((48 + k % 10) :: [])))))]]) B (k := 0) dJ26_getChars_103 rfl rfl (vp_in_nI (by omega) (by omega)) ?_ ?_
      · rw [nI_clamp (by omega), btg_s (by omega) (by omega) (by omega)]
        rfl
      refine (show Go g κ 104 [some (.int (-nI k)), some (.int (nI (c.length + dln k))), some (.ref arr), none, none, some (.int (nI (((c.length + dln k) - 1) - 1))), some (.int (nI 0))] [] [[(arr, .inl (g.2.1 2, 16, .inl (btg c (((c.length + dln k) - 1) - 1) ((48 + k / 10) :: ((48 + k % 10) :: [])))))]] 0 0 from ?_)
      refine g_iload (q := 106) B dJ26_getChars_104 rfl rfl ?_
      refine g_if_eq (tgt := 118) (q := 109) B dJ26_getChars_106 rfl (by decide) (iff_true_intro (by decide)) (fun _ => ?_) (fun z => absurd trivial z)
      refine g_iload (q := 120) B dJ26_getChars_118 rfl rfl ?_
      rw [show btg c (((c.length + dln k) - 1) - 1) ((48 + k / 10) :: ((48 + k % 10) :: [])) = byt (c ++ dec k) by
        rw [btg_e (by omega)]
        congr 2
        unfold dec
        first | (rw [if_pos (by omega)] <;> simp <;> omega) | (rw [if_neg (by omega), if_pos (by omega)] <;> simp <;> omega) | (rw [if_neg (by omega), if_neg (by omega)] <;> simp <;> omega)]
      refine (show Go g κ 120 [some (.int (-nI k)), some (.int (nI (c.length + dln k))), some (.ref arr), none, none, some (.int (nI (((c.length + dln k) - 1) - 1))), some (.int (nI 0))] [.int (nI (((c.length + dln k) - 1) - 1))] [[(arr, .inl (g.2.1 2, 16, .inl (byt (c ++ dec k))))]] 0 0 from ?_)
      exact g_iret B E dJ26_getChars_120 (⟨_, rfl, rfl⟩)
  · skip
    refine g_iload_n (q := 29) B dJ26_getChars_28 rfl rfl ?_
    refine g_bipush (v := nI 100) (q := 31) B dJ26_getChars_29 rfl (by decide) ?_
    refine g_idiv (v := -nI (k / 100)) (q := 32) B dJ26_getChars_31 rfl (by decide) (gc_q k hk) ?_
    refine g_istore_n (q := 33) (lv2 := [some (.int (-nI k)), some (.int (nI (c.length + dln k))), some (.ref arr), some (.int (-nI (k / 100))), none, some (.int (nI (c.length + dln k))), some (.int (nI 0))]) B dJ26_getChars_32 rfl (Nat.le_of_ble_eq_true rfl) rfl ?_
    refine g_iload_n (q := 34) B dJ26_getChars_33 rfl rfl ?_
    refine g_bipush (v := nI 100) (q := 36) B dJ26_getChars_34 rfl (by decide) ?_
    refine g_imul (v := -nI (k / 100) * nI 100) (q := 37) B dJ26_getChars_36 rfl rfl ?_
    refine g_iload_n (q := 38) B dJ26_getChars_37 rfl rfl ?_
    refine g_isub (v := nI (k % 100)) (q := 39) B dJ26_getChars_38 rfl (gc_r k hk) ?_
    refine g_istore (q := 41) (lv2 := [some (.int (-nI k)), some (.int (nI (c.length + dln k))), some (.ref arr), some (.int (-nI (k / 100))), some (.int (nI (k % 100))), some (.int (nI (c.length + dln k))), some (.int (nI 0))]) B dJ26_getChars_39 rfl (Nat.le_of_ble_eq_true rfl) rfl ?_
    refine g_iload_n (q := 42) B dJ26_getChars_41 rfl rfl ?_
    refine g_istore_n (q := 43) (lv2 := [some (.int (-nI (k / 100))), some (.int (nI (c.length + dln k))), some (.ref arr), some (.int (-nI (k / 100))), some (.int (nI (k % 100))), some (.int (nI (c.length + dln k))), some (.int (nI 0))]) B dJ26_getChars_42 rfl (Nat.le_of_ble_eq_true rfl) rfl ?_
    refine g_aload_n (q := 44) B dJ26_getChars_43 rfl rfl (rv_r _) ?_
    refine g_iinc (v := nI ((c.length + dln k) - 1)) (q := 47) (lv2 := [some (.int (-nI (k / 100))), some (.int (nI (c.length + dln k))), some (.ref arr), some (.int (-nI (k / 100))), some (.int (nI (k % 100))), some (.int (nI ((c.length + dln k) - 1))), some (.int (nI 0))]) B dJ26_getChars_44 rfl rfl (pk_sub1 (by omega)) (Nat.le_of_ble_eq_true rfl) rfl ?_
    refine g_iload (q := 49) B dJ26_getChars_47 rfl rfl ?_
    refine g_gets (q := 52) B J.2.2.2.1.1 dJ26_getChars_49 rfl q551 ?_
    refine g_iload (q := 54) B dJ26_getChars_52 rfl rfl ?_
    refine g_tb (v := .int (nI (48 + (k % 100) % 10))) (q := 55) B J.2.2.2.1.2.1 dJ26_getChars_54 rfl (vp_in_nI (by omega) (by omega)) (by show Value.int (nI (48 + (nI (k % 100)).toNatClampNeg % 10)) = _; rw [nI_clamp (by omega)]) ?_
    refine (show Go g κ 55 [some (.int (-nI (k / 100))), some (.int (nI (c.length + dln k))), some (.ref arr), some (.int (-nI (k / 100))), some (.int (nI (k % 100))), some (.int (nI ((c.length + dln k) - 1))), some (.int (nI 0))] [.int (nI (48 + (k % 100) % 10)), .int (nI ((c.length + dln k) - 1)), .ref arr] [[(arr, .inl (g.2.1 2, 16, .inl (btg c (c.length + dln k) [])))]] 0 0 from ?_)
    refine g_bast (q := 56) (L2 := [[(arr, .inl (g.2.1 2, 16, .inl (btg c ((c.length + dln k) - 1) ((48 + (k % 100) % 10) :: []))))]]) B (k := 0) dJ26_getChars_55 rfl rfl (vp_in_nI (by omega) (by omega)) ?_ ?_
    · rw [nI_clamp (by omega), btg_s (by omega) (by omega) (by omega)]
      rfl
    refine (show Go g κ 56 [some (.int (-nI (k / 100))), some (.int (nI (c.length + dln k))), some (.ref arr), some (.int (-nI (k / 100))), some (.int (nI (k % 100))), some (.int (nI ((c.length + dln k) - 1))), some (.int (nI 0))] [] [[(arr, .inl (g.2.1 2, 16, .inl (btg c ((c.length + dln k) - 1) ((48 + (k % 100) % 10) :: []))))]] 0 0 from ?_)
    refine g_aload_n (q := 57) B dJ26_getChars_56 rfl rfl (rv_r _) ?_
    refine g_iinc (v := nI (((c.length + dln k) - 1) - 1)) (q := 60) (lv2 := [some (.int (-nI (k / 100))), some (.int (nI (c.length + dln k))), some (.ref arr), some (.int (-nI (k / 100))), some (.int (nI (k % 100))), some (.int (nI (((c.length + dln k) - 1) - 1))), some (.int (nI 0))]) B dJ26_getChars_57 rfl rfl (pk_sub1 (by omega)) (Nat.le_of_ble_eq_true rfl) rfl ?_
    refine g_iload (q := 62) B dJ26_getChars_60 rfl rfl ?_
    refine g_gets (q := 65) B J.2.2.2.1.2.2.1 dJ26_getChars_62 rfl q553 ?_
    refine g_iload (q := 67) B dJ26_getChars_65 rfl rfl ?_
    refine g_tb (v := .int (nI (48 + (k % 100) / 10))) (q := 68) B J.2.2.2.1.2.2.2 dJ26_getChars_67 rfl (vp_in_nI (by omega) (by omega)) (by show Value.int (nI (48 + (nI (k % 100)).toNatClampNeg / 10)) = _; rw [nI_clamp (by omega)]) ?_
    refine (show Go g κ 68 [some (.int (-nI (k / 100))), some (.int (nI (c.length + dln k))), some (.ref arr), some (.int (-nI (k / 100))), some (.int (nI (k % 100))), some (.int (nI (((c.length + dln k) - 1) - 1))), some (.int (nI 0))] [.int (nI (48 + (k % 100) / 10)), .int (nI (((c.length + dln k) - 1) - 1)), .ref arr] [[(arr, .inl (g.2.1 2, 16, .inl (btg c ((c.length + dln k) - 1) ((48 + (k % 100) % 10) :: []))))]] 0 0 from ?_)
    refine g_bast (q := 69) (L2 := [[(arr, .inl (g.2.1 2, 16, .inl (btg c (((c.length + dln k) - 1) - 1) ((48 + (k % 100) / 10) :: ((48 + (k % 100) % 10) :: [])))))]]) B (k := 0) dJ26_getChars_68 rfl rfl (vp_in_nI (by omega) (by omega)) ?_ ?_
    · rw [nI_clamp (by omega), btg_s (by omega) (by omega) (by omega)]
      rfl
    refine (show Go g κ 69 [some (.int (-nI (k / 100))), some (.int (nI (c.length + dln k))), some (.ref arr), some (.int (-nI (k / 100))), some (.int (nI (k % 100))), some (.int (nI (((c.length + dln k) - 1) - 1))), some (.int (nI 0))] [] [[(arr, .inl (g.2.1 2, 16, .inl (btg c (((c.length + dln k) - 1) - 1) ((48 + (k % 100) / 10) :: ((48 + (k % 100) % 10) :: [])))))]] 0 0 from ?_)
    refine g_goto (tgt := 22) B dJ26_getChars_69 (by decide) ?_
    refine g_iload_n (q := 23) B dJ26_getChars_22 rfl rfl ?_
    refine g_bipush (v := -100) (q := 25) B dJ26_getChars_23 rfl (by decide) ?_
    refine g_icmp_gt (tgt := 72) (q := 28) B dJ26_getChars_25 rfl (by decide) (iff_true_intro ((gc_1 _ (by omega)).mpr (by omega))) (fun _ => ?_) (fun z => absurd trivial z)
    refine g_aload_n (q := 73) B dJ26_getChars_72 rfl rfl (rv_r _) ?_
    refine g_iinc (v := nI ((((c.length + dln k) - 1) - 1) - 1)) (q := 76) (lv2 := [some (.int (-nI (k / 100))), some (.int (nI (c.length + dln k))), some (.ref arr), some (.int (-nI (k / 100))), some (.int (nI (k % 100))), some (.int (nI ((((c.length + dln k) - 1) - 1) - 1))), some (.int (nI 0))]) B dJ26_getChars_73 rfl rfl (pk_sub1 (by omega)) (Nat.le_of_ble_eq_true rfl) rfl ?_
    refine g_iload (q := 78) B dJ26_getChars_76 rfl rfl ?_
    refine g_gets (q := 81) B J.2.2.2.1.1 dJ26_getChars_78 rfl q551 ?_
    refine g_iload_n (q := 82) B dJ26_getChars_81 rfl rfl ?_
    refine g_ineg (v := nI (k / 100)) (q := 83) B dJ26_getChars_82 rfl (gc_n _ (by omega)) ?_
    refine g_tb (v := .int (nI (48 + (k / 100) % 10))) (q := 84) B J.2.2.2.1.2.1 dJ26_getChars_83 rfl (vp_in_nI (by omega) (by omega)) (by show Value.int (nI (48 + (nI (k / 100)).toNatClampNeg % 10)) = _; rw [nI_clamp (by omega)]) ?_
    refine (show Go g κ 84 [some (.int (-nI (k / 100))), some (.int (nI (c.length + dln k))), some (.ref arr), some (.int (-nI (k / 100))), some (.int (nI (k % 100))), some (.int (nI ((((c.length + dln k) - 1) - 1) - 1))), some (.int (nI 0))] [.int (nI (48 + (k / 100) % 10)), .int (nI ((((c.length + dln k) - 1) - 1) - 1)), .ref arr] [[(arr, .inl (g.2.1 2, 16, .inl (btg c (((c.length + dln k) - 1) - 1) ((48 + (k % 100) / 10) :: ((48 + (k % 100) % 10) :: [])))))]] 0 0 from ?_)
    refine g_bast (q := 85) (L2 := [[(arr, .inl (g.2.1 2, 16, .inl (btg c ((((c.length + dln k) - 1) - 1) - 1) ((48 + (k / 100) % 10) :: ((48 + (k % 100) / 10) :: ((48 + (k % 100) % 10) :: []))))))]]) B (k := 0) dJ26_getChars_84 rfl rfl (vp_in_nI (by omega) (by omega)) ?_ ?_
    · rw [nI_clamp (by omega), btg_s (by omega) (by omega) (by omega)]
      rfl
    refine (show Go g κ 85 [some (.int (-nI (k / 100))), some (.int (nI (c.length + dln k))), some (.ref arr), some (.int (-nI (k / 100))), some (.int (nI (k % 100))), some (.int (nI ((((c.length + dln k) - 1) - 1) - 1))), some (.int (nI 0))] [] [[(arr, .inl (g.2.1 2, 16, .inl (btg c ((((c.length + dln k) - 1) - 1) - 1) ((48 + (k / 100) % 10) :: ((48 + (k % 100) / 10) :: ((48 + (k % 100) % 10) :: []))))))]] 0 0 from ?_)
    refine g_iload_n (q := 86) B dJ26_getChars_85 rfl rfl ?_
    refine g_bipush (v := -9) (q := 88) B dJ26_getChars_86 rfl (by decide) ?_
    refine g_icmp_ge (tgt := 104) (q := 91) B dJ26_getChars_88 rfl (by decide) (gc_9 _ (by omega)) (fun c88 => ?_) (fun c88 => ?_)
    · skip
      refine g_iload (q := 106) B dJ26_getChars_104 rfl rfl ?_
      refine g_if_eq (tgt := 118) (q := 109) B dJ26_getChars_106 rfl (by decide) (iff_true_intro (by decide)) (fun _ => ?_) (fun z => absurd trivial z)
      refine g_iload (q := 120) B dJ26_getChars_118 rfl rfl ?_
      rw [show btg c ((((c.length + dln k) - 1) - 1) - 1) ((48 + (k / 100) % 10) :: ((48 + (k % 100) / 10) :: ((48 + (k % 100) % 10) :: []))) = byt (c ++ dec k) by
        rw [btg_e (by omega)]
        congr 2
        unfold dec
        first | (rw [if_pos (by omega)] <;> simp <;> omega) | (rw [if_neg (by omega), if_pos (by omega)] <;> simp <;> omega) | (rw [if_neg (by omega), if_neg (by omega)] <;> simp <;> omega)]
      refine (show Go g κ 120 [some (.int (-nI (k / 100))), some (.int (nI (c.length + dln k))), some (.ref arr), some (.int (-nI (k / 100))), some (.int (nI (k % 100))), some (.int (nI ((((c.length + dln k) - 1) - 1) - 1))), some (.int (nI 0))] [.int (nI ((((c.length + dln k) - 1) - 1) - 1))] [[(arr, .inl (g.2.1 2, 16, .inl (byt (c ++ dec k))))]] 0 0 from ?_)
      exact g_iret B E dJ26_getChars_120 (⟨_, rfl, rfl⟩)
    · skip
      refine g_aload_n (q := 92) B dJ26_getChars_91 rfl rfl (rv_r _) ?_
      refine g_iinc (v := nI (((((c.length + dln k) - 1) - 1) - 1) - 1)) (q := 95) (lv2 := [some (.int (-nI (k / 100))), some (.int (nI (c.length + dln k))), some (.ref arr), some (.int (-nI (k / 100))), some (.int (nI (k % 100))), some (.int (nI (((((c.length + dln k) - 1) - 1) - 1) - 1))), some (.int (nI 0))]) B dJ26_getChars_92 rfl rfl (pk_sub1 (by omega)) (Nat.le_of_ble_eq_true rfl) rfl ?_
      refine g_iload (q := 97) B dJ26_getChars_95 rfl rfl ?_
      refine g_gets (q := 100) B J.2.2.2.1.2.2.1 dJ26_getChars_97 rfl q553 ?_
      refine g_iload_n (q := 101) B dJ26_getChars_100 rfl rfl ?_
      refine g_ineg (v := nI (k / 100)) (q := 102) B dJ26_getChars_101 rfl (gc_n _ (by omega)) ?_
      refine g_tb (v := .int (nI (48 + (k / 100) / 10))) (q := 103) B J.2.2.2.1.2.2.2 dJ26_getChars_102 rfl (vp_in_nI (by omega) (by omega)) (by show Value.int (nI (48 + (nI (k / 100)).toNatClampNeg / 10)) = _; rw [nI_clamp (by omega)]) ?_
      refine (show Go g κ 103 [some (.int (-nI (k / 100))), some (.int (nI (c.length + dln k))), some (.ref arr), some (.int (-nI (k / 100))), some (.int (nI (k % 100))), some (.int (nI (((((c.length + dln k) - 1) - 1) - 1) - 1))), some (.int (nI 0))] [.int (nI (48 + (k / 100) / 10)), .int (nI (((((c.length + dln k) - 1) - 1) - 1) - 1)), .ref arr] [[(arr, .inl (g.2.1 2, 16, .inl (btg c ((((c.length + dln k) - 1) - 1) - 1) ((48 + (k / 100) % 10) :: ((48 + (k % 100) / 10) :: ((48 + (k % 100) % 10) :: []))))))]] 0 0 from ?_)
      refine g_bast (q := 104) (L2 := [[(arr, .inl (g.2.1 2, 16, .inl (btg c (((((c.length + dln k) - 1) - 1) - 1) - 1) ((48 + (k / 100) / 10) :: ((48 + (k / 100) % 10) :: ((48 + (k % 100) / 10) :: ((48 + (k % 100) % 10) :: [])))))))]]) B (k := 0) dJ26_getChars_103 rfl rfl (vp_in_nI (by omega) (by omega)) ?_ ?_
      · rw [nI_clamp (by omega), btg_s (by omega) (by omega) (by omega)]
        rfl
      refine (show Go g κ 104 [some (.int (-nI (k / 100))), some (.int (nI (c.length + dln k))), some (.ref arr), some (.int (-nI (k / 100))), some (.int (nI (k % 100))), some (.int (nI (((((c.length + dln k) - 1) - 1) - 1) - 1))), some (.int (nI 0))] [] [[(arr, .inl (g.2.1 2, 16, .inl (btg c (((((c.length + dln k) - 1) - 1) - 1) - 1) ((48 + (k / 100) / 10) :: ((48 + (k / 100) % 10) :: ((48 + (k % 100) / 10) :: ((48 + (k % 100) % 10) :: [])))))))]] 0 0 from ?_)
      refine g_iload (q := 106) B dJ26_getChars_104 rfl rfl ?_
      refine g_if_eq (tgt := 118) (q := 109) B dJ26_getChars_106 rfl (by decide) (iff_true_intro (by decide)) (fun _ => ?_) (fun z => absurd trivial z)
      refine g_iload (q := 120) B dJ26_getChars_118 rfl rfl ?_
      rw [show btg c (((((c.length + dln k) - 1) - 1) - 1) - 1) ((48 + (k / 100) / 10) :: ((48 + (k / 100) % 10) :: ((48 + (k % 100) / 10) :: ((48 + (k % 100) % 10) :: [])))) = byt (c ++ dec k) by
        rw [btg_e (by omega)]
        congr 2
        unfold dec
        first | (rw [if_pos (by omega)] <;> simp <;> omega) | (rw [if_neg (by omega), if_pos (by omega)] <;> simp <;> omega) | (rw [if_neg (by omega), if_neg (by omega)] <;> simp <;> omega)]
      refine (show Go g κ 120 [some (.int (-nI (k / 100))), some (.int (nI (c.length + dln k))), some (.ref arr), some (.int (-nI (k / 100))), some (.int (nI (k % 100))), some (.int (nI (((((c.length + dln k) - 1) - 1) - 1) - 1))), some (.int (nI 0))] [.int (nI (((((c.length + dln k) - 1) - 1) - 1) - 1))] [[(arr, .inl (g.2.1 2, 16, .inl (byt (c ++ dec k))))]] 0 0 from ?_)
      exact g_iret B E dJ26_getChars_120 (⟨_, rfl, rfl⟩)
theorem moJ26_stringSize : Mo yJ26_stringSize 1 := by
  refine ⟨by decide, by decide, by decide +kernel⟩
theorem moJ21_isLatin1 : Mo yJ21_isLatin1 0 := by
  refine ⟨by decide, by decide, by decide +kernel⟩
theorem moJ26_getChars : Mo yJ26_getChars 3 := by
  refine ⟨by decide, by decide, by decide +kernel⟩
theorem ct_J21_append_2 (g : Gv) (J : Jd g) {b : Nat} {c : List Nat} {arr : Nat} {ml : Nat} {k : Nat} (hk : k < 1000) (hc : c.length + dln k ≤ 16) : Ct g yJ21_append_2 (ws_ yJ21_append_2 cJ21_append_2 4 (some (.object "java/lang/AbstractStringBuilder"))) 1 0 0 [.ref b, .int (nI k)] [[(b, .inr (37, [.ref arr, .int (nI 0), .int (nI ml), .int (nI c.length)]))], [(arr, .inl (g.2.1 2, 16, .inl (byt c)))]] (fun (rv_ : Option Value) (rL_ : List va_W) => rv_ = some (.ref b) ∧ rL_ = [[(b, .inr (37, [.ref arr, .int (nI 0), .int (nI ml), .int (nI (c.length + dln k))]))], [(arr, .inl (g.2.1 2, 16, .inl (byt (c ++ dec k))))]]) noX := by
  refine Ct.of "java/lang/AbstractStringBuilder" [some (.ref b), some (.int (nI k)), none, none] rfl (by decide) rfl (Nat.le_of_ble_eq_true rfl) rfl ?_
  intro κ B E tb
  refine g_aload_n (q := 1) B dJ21_append_2_0 rfl rfl (rv_r _) ?_
  refine g_get (q := 4) B (ci := 37) (k := 0) (j := 3) in_J22 rfl dJ21_append_2_1 rfl rfl (Nat.le_of_ble_eq_true rfl) q406 rfl rfl ?_
  refine g_istore_n (q := 5) (lv2 := [some (.ref b), some (.int (nI k)), some (.int (nI c.length)), none]) B dJ21_append_2_4 rfl (Nat.le_of_ble_eq_true rfl) rfl ?_
  refine g_iload_n (q := 6) B dJ21_append_2_5 rfl rfl ?_
  refine g_iload_n (q := 7) B dJ21_append_2_6 rfl rfl ?_
  refine g_callS (q := 10) (is := []) (kc2 := 0) (ks2 := 0) B [.int (nI k)] (ct_J26_stringSize g J (k := k)  (by first | assumption | omega | rfl)) dJ21_append_2_7 rfl q545 q546 q111 q547 rfl rfl moJ26_stringSize rfl rfl (by decide) (by decide) (Nat.le_of_ble_eq_true rfl) (Nat.le_of_ble_eq_true rfl) (Nat.le_of_ble_eq_true rfl) (fun _ _ hx => noX_x hx) (fun v7 L1 hp7 => ?_)
  obtain ⟨rfl, rfl⟩ := hp7
  refine (show Go g κ 10 [some (.ref b), some (.int (nI k)), some (.int (nI c.length)), none] [.int (nI (dln k)), .int (nI c.length)] [[(b, .inr (37, [.ref arr, .int (nI 0), .int (nI ml), .int (nI c.length)]))], [(arr, .inl (g.2.1 2, 16, .inl (byt c)))]] 0 0 from ?_)
  refine g_iadd (v := nI (c.length + dln k)) (q := 11) B dJ21_append_2_10 rfl (nI_add _ _) ?_
  refine g_istore_n (q := 12) (lv2 := [some (.ref b), some (.int (nI k)), some (.int (nI c.length)), some (.int (nI (c.length + dln k)))]) B dJ21_append_2_11 rfl (Nat.le_of_ble_eq_true rfl) rfl ?_
  refine g_aload_n (q := 13) B dJ21_append_2_12 rfl rfl (rv_r _) ?_
  refine g_iload_n (q := 14) B dJ21_append_2_13 rfl rfl ?_
  refine g_callP (q := 17) (is := [0, 0]) (kc2 := 0) (ks2 := 0) B [.int (nI (c.length + dln k))] (ct_J21_ensureCapacityInternal g J (b := b) (c := c) (arr := arr) (ml := ml) (n := c.length + dln k)  (by first | assumption | omega | rfl)) dJ21_append_2_14 rfl (rc_at B (ci := 37) rfl (k := 0) rfl) rfl (by decide) rfl q429 q3657 q386 q430 q467 rfl q431 q106 q432 rfl rfl moJ21_ensureCapacityInternal rfl rfl (by decide) (by decide) (Nat.le_of_ble_eq_true rfl) (Nat.le_of_ble_eq_true rfl) (Nat.le_of_ble_eq_true rfl) (fun _ _ hx => noX_x hx) (fun v14 L1 hp14 => ?_)
  obtain ⟨rfl, rfl⟩ := hp14
  refine (show Go g κ 17 [some (.ref b), some (.int (nI k)), some (.int (nI c.length)), some (.int (nI (c.length + dln k)))] [] [[(b, .inr (37, [.ref arr, .int (nI 0), .int (nI ml), .int (nI c.length)]))], [(arr, .inl (g.2.1 2, 16, .inl (byt c)))]] 0 0 from ?_)
  refine g_aload_n (q := 18) B dJ21_append_2_17 rfl rfl (rv_r _) ?_
  refine g_callU (q := 21) (is := [0]) (kc2 := 0) (ks2 := 0) B [] (ct_J21_isLatin1 g J (b := b) (c := c) (arr := arr) (ml := ml)  ) dJ21_append_2_18 rfl (rc_at B (ci := 37) rfl (k := 0) rfl) rfl (by decide) q464 q466 q467 q465 q106 q468 rfl rfl moJ21_isLatin1 rfl rfl (by decide) (by decide) (Nat.le_of_ble_eq_true rfl) (Nat.le_of_ble_eq_true rfl) (Nat.le_of_ble_eq_true rfl) (fun _ _ hx => noX_x hx) (fun v18 L1 hp18 => ?_)
  obtain ⟨rfl, rfl⟩ := hp18
  refine (show Go g κ 21 [some (.ref b), some (.int (nI k)), some (.int (nI c.length)), some (.int (nI (c.length + dln k)))] [.int (nI 1)] [[(arr, .inl (g.2.1 2, 16, .inl (byt c)))], [(b, .inr (37, [.ref arr, .int (nI 0), .int (nI ml), .int (nI c.length)]))]] 0 0 from ?_)
  refine g_if_eq (tgt := 37) (q := 24) B dJ21_append_2_21 rfl (by decide) (iff_false_intro (by decide)) (fun z => z.elim) (fun _ => ?_)
  refine g_iload_n (q := 25) B dJ21_append_2_24 rfl rfl ?_
  refine g_iload_n (q := 26) B dJ21_append_2_25 rfl rfl ?_
  refine g_aload_n (q := 27) B dJ21_append_2_26 rfl rfl (rv_r _) ?_
  refine g_get (q := 30) B (ci := 37) (k := 1) (j := 0) in_J22 rfl dJ21_append_2_27 rfl rfl (Nat.le_of_ble_eq_true rfl) q403 rfl rfl ?_
  refine g_callS (q := 33) (is := [0]) (kc2 := 0) (ks2 := 0) B [.int (nI k), .int (nI (c.length + dln k)), .ref arr] (ct_J26_getChars g J (k := k) (c := c) (arr := arr)  (by first | assumption | omega | rfl) (by first | assumption | omega | rfl)) dJ21_append_2_30 rfl q548 q549 q111 q550 rfl rfl moJ26_getChars rfl rfl (by decide) (by decide) (Nat.le_of_ble_eq_true rfl) (Nat.le_of_ble_eq_true rfl) (Nat.le_of_ble_eq_true rfl) (fun _ _ hx => noX_x hx) (fun v30 L1 hp30 => ?_)
  obtain ⟨z30, rfl, rfl⟩ := hp30
  refine (show Go g κ 33 [some (.ref b), some (.int (nI k)), some (.int (nI c.length)), some (.int (nI (c.length + dln k)))] [.int z30] [[(b, .inr (37, [.ref arr, .int (nI 0), .int (nI ml), .int (nI c.length)]))], [(arr, .inl (g.2.1 2, 16, .inl (byt (c ++ dec k))))]] 0 0 from ?_)
  refine g_pop (q := 34) B dJ21_append_2_33 rfl rfl ?_
  refine g_goto (tgt := 48) B dJ21_append_2_34 (by decide) ?_
  refine g_aload_n (q := 49) B dJ21_append_2_48 rfl rfl (rv_r _) ?_
  refine g_iload_n (q := 50) B dJ21_append_2_49 rfl rfl ?_
  refine g_put (q := 53) (L2 := [[(b, .inr (37, [.ref arr, .int (nI 0), .int (nI ml), .int (nI (c.length + dln k))]))], [(arr, .inl (g.2.1 2, 16, .inl (byt (c ++ dec k))))]]) B (ci := 37) (k := 0) (j := 3) in_J22 tyJ22 tyJ22_ok nmJ22 rfl dJ21_append_2_50 rfl rfl (Nat.le_of_ble_eq_true rfl) q406 rfl rfl rfl rfl (Nat.le_of_ble_eq_true rfl) rfl ?_
  refine g_aload_n (q := 54) B dJ21_append_2_53 rfl rfl (rv_r _) ?_
  exact g_aret B E dJ21_append_2_54 (by first | exact Or.inl ⟨_, rfl⟩ | exact Or.inr ⟨_, rfl⟩) (rv_r _) (⟨rfl, rfl⟩)
theorem moJ21_append : Mo yJ21_append 1 := by
  refine ⟨by decide, by decide, by decide +kernel⟩
theorem ct_J22_append (g : Gv) (J : Jd g) {b : Nat} {c : List Nat} {w0 : va_W} (hw0 : SbP g b c w0) (hc : c.length < 16) : Ct g yJ22_append (ws_ yJ22_append cJ22_append 2 (some (.object "java/lang/StringBuilder"))) 4 0 0 [.ref b, .ref (gA g 6)] [w0] (fun (rv_ : Option Value) (rL_ : List va_W) => ∃ (u0 : va_W), rv_ = some (.ref b) ∧ rL_ = [u0] ∧ SbP g b (c ++ [44]) u0) noX := by
  refine Ct.of "java/lang/StringBuilder" [some (.ref b), some (.ref (gA g 6))] rfl (by decide) rfl (Nat.le_of_ble_eq_true rfl) rfl ?_
  intro κ B E tb
  obtain ⟨arr, ml, hc1, hc2, hml, rfl⟩ := hw0
  refine g_open 0 rfl rfl rfl ?_
  refine (show Go g κ 0 [some (.ref b), some (.ref (gA g 6))] [] [[(b, .inr (37, [.ref arr, .int (nI 0), .int (nI ml), .int (nI c.length)]))], [(arr, .inl (g.2.1 2, 16, .inl (byt c)))]] 0 0 from ?_)
  refine g_aload_n (q := 1) B dJ22_append_0 rfl rfl (rv_r _) ?_
  refine g_aload_n (q := 2) B dJ22_append_1 rfl rfl (rv_r _) ?_
  refine g_callSU (q := 5) (is := [0, 0]) (kc2 := 0) (ks2 := 0) B [.ref (gA g 6)] (ct_J21_append g J (b := b) (c := c) (arr := arr) (ml := ml)  (by first | assumption | omega | rfl)) dJ22_append_2 rfl (ci := 37) rfl (rc_at B (ci := 37) rfl (k := 0) rfl) (by decide) q422 q3655 q415 q423 q106 q424 rfl rfl moJ21_append rfl rfl (by decide) (by decide) (Nat.le_of_ble_eq_true rfl) (Nat.le_of_ble_eq_true rfl) (Nat.le_of_ble_eq_true rfl) (fun _ _ hx => noX_x hx) (fun v2 L1 hp2 => ?_)
  obtain ⟨rfl, rfl⟩ := hp2
  refine (show Go g κ 5 [some (.ref b), some (.ref (gA g 6))] [.ref b] [[(b, .inr (37, [.ref arr, .int (nI 0), .int (nI ml), .int (nI (c.length + 1))]))], [(arr, .inl (g.2.1 2, 16, .inl (byt (c ++ [44]))))]] 0 0 from ?_)
  refine g_pop (q := 6) B dJ22_append_5 rfl rfl ?_
  refine g_aload_n (q := 7) B dJ22_append_6 rfl rfl (rv_r _) ?_
  obtain ⟨wc_1, ewc_1⟩ : ∃ w : va_W, w = ([[(b, .inr (37, [.ref arr, .int (nI 0), .int (nI ml), .int (nI (c.length + 1))]))], [(arr, .inl (g.2.1 2, 16, .inl (byt (c ++ [44]))))]] : List va_W).flatten := ⟨_, rfl⟩
  have hwc_1 : SbP g b (c ++ [44]) wc_1 := by
    rw [ewc_1]
    exact ⟨arr, ml, by simp; omega, asc_app hc2 (by intro b hb; simp at hb; omega), hml, by simp⟩
  refine g_close (w := wc_1) [0, 0] rfl ewc_1 rfl ?_
  refine (show Go g κ 7 [some (.ref b), some (.ref (gA g 6))] [.ref b] [wc_1] 0 0 from ?_)
  exact g_aret B E dJ22_append_7 (by first | exact Or.inl ⟨_, rfl⟩ | exact Or.inr ⟨_, rfl⟩) (rv_r _) (⟨wc_1, rfl, rfl, hwc_1⟩)
theorem moJ21_append_2 : Mo yJ21_append_2 1 := by
  refine ⟨by decide, by decide, by decide +kernel⟩
theorem ct_J22_append_2 (g : Gv) (J : Jd g) {b : Nat} {c : List Nat} {k : Nat} {w0 : va_W} (hw0 : SbP g b c w0) (hk : k < 1000) (hc : c.length + dln k ≤ 16) : Ct g yJ22_append_2 (ws_ yJ22_append_2 cJ22_append_2 2 (some (.object "java/lang/StringBuilder"))) 2 0 0 [.ref b, .int (nI k)] [w0] (fun (rv_ : Option Value) (rL_ : List va_W) => ∃ (u0 : va_W), rv_ = some (.ref b) ∧ rL_ = [u0] ∧ SbP g b (c ++ dec k) u0) noX := by
  refine Ct.of "java/lang/StringBuilder" [some (.ref b), some (.int (nI k))] rfl (by decide) rfl (Nat.le_of_ble_eq_true rfl) rfl ?_
  intro κ B E tb
  obtain ⟨arr, ml, hc1, hc2, hml, rfl⟩ := hw0
  refine g_open 0 rfl rfl rfl ?_
  refine (show Go g κ 0 [some (.ref b), some (.int (nI k))] [] [[(b, .inr (37, [.ref arr, .int (nI 0), .int (nI ml), .int (nI c.length)]))], [(arr, .inl (g.2.1 2, 16, .inl (byt c)))]] 0 0 from ?_)
  refine g_aload_n (q := 1) B dJ22_append_2_0 rfl rfl (rv_r _) ?_
  refine g_iload_n (q := 2) B dJ22_append_2_1 rfl rfl ?_
  refine g_callSU (q := 5) (is := [0, 0]) (kc2 := 0) (ks2 := 0) B [.int (nI k)] (ct_J21_append_2 g J (b := b) (c := c) (arr := arr) (ml := ml) (k := k)  (by first | assumption | omega | rfl) (by first | assumption | omega | rfl)) dJ22_append_2_2 rfl (ci := 37) rfl (rc_at B (ci := 37) rfl (k := 0) rfl) (by decide) q542 q3662 q415 q543 q106 q544 rfl rfl moJ21_append_2 rfl rfl (by decide) (by decide) (Nat.le_of_ble_eq_true rfl) (Nat.le_of_ble_eq_true rfl) (Nat.le_of_ble_eq_true rfl) (fun _ _ hx => noX_x hx) (fun v2 L1 hp2 => ?_)
  obtain ⟨rfl, rfl⟩ := hp2
  refine (show Go g κ 5 [some (.ref b), some (.int (nI k))] [.ref b] [[(b, .inr (37, [.ref arr, .int (nI 0), .int (nI ml), .int (nI (c.length + dln k))]))], [(arr, .inl (g.2.1 2, 16, .inl (byt (c ++ dec k))))]] 0 0 from ?_)
  refine g_pop (q := 6) B dJ22_append_2_5 rfl rfl ?_
  refine g_aload_n (q := 7) B dJ22_append_2_6 rfl rfl (rv_r _) ?_
  obtain ⟨wc_1, ewc_1⟩ : ∃ w : va_W, w = ([[(b, .inr (37, [.ref arr, .int (nI 0), .int (nI ml), .int (nI (c.length + dln k))]))], [(arr, .inl (g.2.1 2, 16, .inl (byt (c ++ dec k))))]] : List va_W).flatten := ⟨_, rfl⟩
  have hwc_1 : SbP g b (c ++ dec k) wc_1 := by
    rw [ewc_1]
    exact ⟨arr, ml, by rw [List.length_append, dec_len]; omega, asc_app hc2 (dec_asc hk), hml, by rw [List.length_append, dec_len]⟩
  refine g_close (w := wc_1) [0, 0] rfl ewc_1 rfl ?_
  refine (show Go g κ 7 [some (.ref b), some (.int (nI k))] [.ref b] [wc_1] 0 0 from ?_)
  exact g_aret B E dJ22_append_2_7 (by first | exact Or.inl ⟨_, rfl⟩ | exact Or.inr ⟨_, rfl⟩) (rv_r _) (⟨wc_1, rfl, rfl, hwc_1⟩)
theorem ct_J13_checkLength (g : Gv) (J : Jd g) {n : Nat} (hn : n < 1000) : Ct g yJ13_checkLength (ws_ yJ13_checkLength cJ13_checkLength 2 none) 0 0 0 [.int (nI 0), .int (nI n)] [] (fun (rv_ : Option Value) (rL_ : List va_W) => rv_ = none ∧ rL_ = []) noX := by
  refine Ct.of "java/util/Arrays" [some (.int (nI 0)), some (.int (nI n))] rfl (by decide) rfl (Nat.le_of_ble_eq_true rfl) rfl ?_
  intro κ B E tb
  refine g_iload_n (q := 1) B dJ13_checkLength_0 rfl rfl ?_
  refine g_iload_n (q := 2) B dJ13_checkLength_1 rfl rfl ?_
  refine g_icmp_ge (tgt := 37) (q := 5) B dJ13_checkLength_2 rfl (by decide) (iff_true_intro ((nI_leI (by omega) (by omega)).mpr (by omega))) (fun _ => ?_) (fun z => absurd trivial z)
  exact g_vret B E dJ13_checkLength_37 (⟨rfl, rfl⟩)
theorem moJ13_checkLength : Mo yJ13_checkLength 2 := by
  refine ⟨by decide, by decide, by decide +kernel⟩
theorem ct_J13_copyOfRangeByte (g : Gv) (J : Jd g) {c : List Nat} {arr : Nat} (hc : c.length < 16) (ha : asc c) : Ct g yJ13_copyOfRangeByte (ws_ yJ13_copyOfRangeByte cJ13_copyOfRangeByte 5 (some (.array .byte))) 1 1 c.length [.ref arr, .int (nI 0), .int (nI c.length)] [[(arr, .inl (g.2.1 2, 16, .inl (byt c)))]] (fun (rv_ : Option Value) (rL_ : List va_W) => ∃ (b : Nat), rv_ = some (.ref b) ∧ rL_ = [[(arr, .inl (g.2.1 2, 16, .inl (byt c)))], [(b, .inl (g.2.1 2, c.length, .inl (byt c)))]]) noX := by
  refine Ct.of "java/util/Arrays" [some (.ref arr), some (.int (nI 0)), some (.int (nI c.length)), none, none] rfl (by decide) rfl (Nat.le_of_ble_eq_true rfl) rfl ?_
  intro κ B E tb
  refine g_iload_n (q := 1) B dJ13_copyOfRangeByte_0 rfl rfl ?_
  refine g_iload_n (q := 2) B dJ13_copyOfRangeByte_1 rfl rfl ?_
  refine g_callS (q := 5) (is := []) (kc2 := 1) (ks2 := c.length) B [.int (nI 0), .int (nI c.length)] (ct_J13_checkLength g J (n := c.length)  (by first | assumption | omega | rfl)) dJ13_copyOfRangeByte_2 rfl q596 q597 q94 q598 rfl rfl moJ13_checkLength rfl rfl (by decide) (by decide) (Nat.le_of_ble_eq_true rfl) (Nat.le_of_ble_eq_true rfl) (by omega) (fun _ _ hx => noX_x hx) (fun v2 L1 hp2 => ?_)
  obtain ⟨rfl, rfl⟩ := hp2
  refine (show Go g κ 5 [some (.ref arr), some (.int (nI 0)), some (.int (nI c.length)), none, none] [] [[(arr, .inl (g.2.1 2, 16, .inl (byt c)))]] 1 c.length from ?_)
  refine g_iload_n (q := 6) B dJ13_copyOfRangeByte_5 rfl rfl ?_
  refine g_iload_n (q := 7) B dJ13_copyOfRangeByte_6 rfl rfl ?_
  refine g_isub (v := nI c.length) (q := 8) B dJ13_copyOfRangeByte_7 rfl (by exact Int32.sub_zero _) ?_
  refine g_istore_n (q := 9) (lv2 := [some (.ref arr), some (.int (nI 0)), some (.int (nI c.length)), some (.int (nI c.length)), none]) B dJ13_copyOfRangeByte_8 rfl (Nat.le_of_ble_eq_true rfl) rfl ?_
  refine g_iload_n (q := 10) B dJ13_copyOfRangeByte_9 rfl rfl ?_
  refine g_newa (atype := .byte) (q := 12) (kc2 := 0) (ks2 := c.length - c.length) (t := 2) (a0 := (c.length, .inl (fun _ => 0))) B q416 rfl rfl dJ13_copyOfRangeByte_10 rfl na_byte (nI_pos (by omega)) (nI_clamp (by omega)) (show c.length * 1 ≤ 536870912 by omega) (Nat.le_of_ble_eq_true rfl) (by omega) (fun n10 => ?_)
  refine (show Go g κ 12 [some (.ref arr), some (.int (nI 0)), some (.int (nI c.length)), some (.int (nI c.length)), none] [.ref n10] [[(arr, .inl (g.2.1 2, 16, .inl (byt c)))], [(n10, .inl (g.2.1 2, c.length, .inl (fun _ => 0)))]] 0 (c.length - c.length) from ?_)
  refine g_astore (q := 14) (lv2 := [some (.ref arr), some (.int (nI 0)), some (.int (nI c.length)), some (.int (nI c.length)), some (.ref n10)]) B dJ13_copyOfRangeByte_12 rfl (Nat.le_of_ble_eq_true rfl) (rv_r _) rfl ?_
  refine g_aload_n (q := 15) B dJ13_copyOfRangeByte_14 rfl rfl (rv_r _) ?_
  refine g_iload_n (q := 16) B dJ13_copyOfRangeByte_15 rfl rfl ?_
  refine g_aload (q := 18) B dJ13_copyOfRangeByte_16 rfl rfl (rv_r _) ?_
  refine g_iconst (v := nI 0) (q := 19) B dJ13_copyOfRangeByte_18 rfl (by decide) ?_
  refine g_aload_n (q := 20) B dJ13_copyOfRangeByte_19 rfl rfl (rv_r _) ?_
  refine g_alen (v := nI 16) (q := 21) B (k := 0) (t := 2) dJ13_copyOfRangeByte_20 rfl rfl rfl rfl ?_
  refine g_iload_n (q := 22) B dJ13_copyOfRangeByte_21 rfl rfl ?_
  refine g_isub (v := nI 16) (q := 23) B dJ13_copyOfRangeByte_22 rfl (by decide) ?_
  refine g_iload_n (q := 24) B dJ13_copyOfRangeByte_23 rfl rfl ?_
  refine g_mmin (q := 27) B q458 dJ13_copyOfRangeByte_24 rfl rfl (Nat.le_of_ble_eq_true rfl) (by omega) (by omega) ?_
  have hmn : (nI (min 16 c.length)).toNatClampNeg = c.length := by rw [nI_clamp (by omega)]; omega
  refine g_copyB (q := 30) (L2 := [[(arr, .inl (g.2.1 2, 16, .inl (byt c)))], [(n10, .inl (g.2.1 2, c.length, .inl (byt c)))]]) B (k0 := 0) (k1 := 1) ⟨q461, q463, q462, q95⟩ rfl rfl (by decide) (by decide) (nI_pos (by omega)) (by rw [hmn]; show 0 + c.length ≤ 16; omega) (by rw [hmn]; show 0 + c.length ≤ c.length; omega) (fun i _ => byt_fit ha _) dJ13_copyOfRangeByte_27 rfl rfl (Nat.le_of_ble_eq_true rfl) ?_ ?_
  · rw [hmn, show (nI 0).toNatClampNeg = 0 from rfl, byt_cpy (c := c) (n := c.length) rfl]
    rfl
  refine (show Go g κ 30 [some (.ref arr), some (.int (nI 0)), some (.int (nI c.length)), some (.int (nI c.length)), some (.ref n10)] [] [[(arr, .inl (g.2.1 2, 16, .inl (byt c)))], [(n10, .inl (g.2.1 2, c.length, .inl (byt c)))]] 0 (c.length - c.length) from ?_)
  refine g_aload (q := 32) B dJ13_copyOfRangeByte_30 rfl rfl (rv_r _) ?_
  exact g_aret B E dJ13_copyOfRangeByte_32 (by first | exact Or.inl ⟨_, rfl⟩ | exact Or.inr ⟨_, rfl⟩) (rv_r _) (⟨n10, rfl, rfl⟩)
theorem moJ13_copyOfRangeByte : Mo yJ13_copyOfRangeByte 3 := by
  refine ⟨by decide, by decide, by decide +kernel⟩
theorem ct_J13_copyOfRange (g : Gv) (J : Jd g) {c : List Nat} {arr : Nat} (hc : c.length < 16) (ha : asc c) : Ct g yJ13_copyOfRange (ws_ yJ13_copyOfRange cJ13_copyOfRange 3 (some (.array .byte))) 2 1 c.length [.ref arr, .int (nI 0), .int (nI c.length)] [[(arr, .inl (g.2.1 2, 16, .inl (byt c)))]] (fun (rv_ : Option Value) (rL_ : List va_W) => ∃ (b : Nat), rv_ = some (.ref b) ∧ rL_ = [[(arr, .inl (g.2.1 2, 16, .inl (byt c)))], [(b, .inl (g.2.1 2, c.length, .inl (byt c)))]]) noX := by
  refine Ct.of "java/util/Arrays" [some (.ref arr), some (.int (nI 0)), some (.int (nI c.length))] rfl (by decide) rfl (Nat.le_of_ble_eq_true rfl) rfl ?_
  intro κ B E tb
  refine g_iload_n (q := 1) B dJ13_copyOfRange_0 rfl rfl ?_
  refine g_if_ne (tgt := 10) (q := 4) B dJ13_copyOfRange_1 rfl (by decide) (iff_false_intro (by decide)) (fun z => z.elim) (fun _ => ?_)
  refine g_iload_n (q := 5) B dJ13_copyOfRange_4 rfl rfl ?_
  refine g_aload_n (q := 6) B dJ13_copyOfRange_5 rfl rfl (rv_r _) ?_
  refine g_alen (v := nI 16) (q := 7) B (k := 0) (t := 2) dJ13_copyOfRange_6 rfl rfl rfl rfl ?_
  refine g_icmp_eq (tgt := 17) (q := 10) B dJ13_copyOfRange_7 rfl (by decide) (iff_false_intro (fun h => absurd ((nI_eq (by omega) (by omega)).mp h) (by omega))) (fun z => z.elim) (fun _ => ?_)
  refine g_aload_n (q := 11) B dJ13_copyOfRange_10 rfl rfl (rv_r _) ?_
  refine g_iload_n (q := 12) B dJ13_copyOfRange_11 rfl rfl ?_
  refine g_iload_n (q := 13) B dJ13_copyOfRange_12 rfl rfl ?_
  refine g_callS (q := 16) (is := [0]) (kc2 := 0) (ks2 := c.length - c.length) B [.ref arr, .int (nI 0), .int (nI c.length)] (ct_J13_copyOfRangeByte g J (c := c) (arr := arr)  (by first | assumption | omega | rfl) (by first | assumption | omega | rfl)) dJ13_copyOfRange_13 rfl q593 q594 q94 q595 rfl rfl moJ13_copyOfRangeByte rfl rfl (by decide) (by decide) (Nat.le_of_ble_eq_true rfl) (Nat.le_of_ble_eq_true rfl) (by omega) (fun _ _ hx => noX_x hx) (fun v13 L1 hp13 => ?_)
  obtain ⟨b13, rfl, rfl⟩ := hp13
  refine (show Go g κ 16 [some (.ref arr), some (.int (nI 0)), some (.int (nI c.length))] [.ref b13] [[(arr, .inl (g.2.1 2, 16, .inl (byt c)))], [(b13, .inl (g.2.1 2, c.length, .inl (byt c)))]] 0 (c.length - c.length) from ?_)
  exact g_aret B E dJ13_copyOfRange_16 (by first | exact Or.inl ⟨_, rfl⟩ | exact Or.inr ⟨_, rfl⟩) (rv_r _) (⟨b13, rfl, rfl⟩)
theorem ct_J21_getValue (g : Gv) (J : Jd g) {b : Nat} {c : List Nat} {arr : Nat} {ml : Nat} : Ct g yJ21_getValue (ws_ yJ21_getValue cJ21_getValue 1 (some (.array .byte))) 0 0 0 [.ref b] [[(b, .inr (37, [.ref arr, .int (nI 0), .int (nI ml), .int (nI c.length)]))]] (fun (rv_ : Option Value) (rL_ : List va_W) => rv_ = some (.ref arr) ∧ rL_ = [[(b, .inr (37, [.ref arr, .int (nI 0), .int (nI ml), .int (nI c.length)]))]]) noX := by
  refine Ct.of "java/lang/AbstractStringBuilder" [some (.ref b)] rfl (by decide) rfl (Nat.le_of_ble_eq_true rfl) rfl ?_
  intro κ B E tb
  refine g_aload_n (q := 1) B dJ21_getValue_0 rfl rfl (rv_r _) ?_
  refine g_get (q := 4) B (ci := 37) (k := 0) (j := 0) in_J22 rfl dJ21_getValue_1 rfl rfl (Nat.le_of_ble_eq_true rfl) q403 rfl rfl ?_
  exact g_aret B E dJ21_getValue_4 (by first | exact Or.inl ⟨_, rfl⟩ | exact Or.inr ⟨_, rfl⟩) (rv_r _) (⟨rfl, rfl⟩)
theorem ct_J21_length (g : Gv) (J : Jd g) {b : Nat} {c : List Nat} {arr : Nat} {ml : Nat} : Ct g yJ21_length (ws_ yJ21_length cJ21_length 1 (some .int)) 0 0 0 [.ref b] [[(b, .inr (37, [.ref arr, .int (nI 0), .int (nI ml), .int (nI c.length)]))]] (fun (rv_ : Option Value) (rL_ : List va_W) => rv_ = some (.int (nI c.length)) ∧ rL_ = [[(b, .inr (37, [.ref arr, .int (nI 0), .int (nI ml), .int (nI c.length)]))]]) noX := by
  refine Ct.of "java/lang/AbstractStringBuilder" [some (.ref b)] rfl (by decide) rfl (Nat.le_of_ble_eq_true rfl) rfl ?_
  intro κ B E tb
  refine g_aload_n (q := 1) B dJ21_length_0 rfl rfl (rv_r _) ?_
  refine g_get (q := 4) B (ci := 37) (k := 0) (j := 3) in_J22 rfl dJ21_length_1 rfl rfl (Nat.le_of_ble_eq_true rfl) q406 rfl rfl ?_
  exact g_iret B E dJ21_length_4 (⟨rfl, rfl⟩)
theorem moJ21_length : Mo yJ21_length 0 := by
  refine ⟨by decide, by decide, by decide +kernel⟩
theorem ct_J22_length (g : Gv) (J : Jd g) {b : Nat} {c : List Nat} {arr : Nat} {ml : Nat} : Ct g yJ22_length (ws_ yJ22_length cJ22_length 1 (some .int)) 1 0 0 [.ref b] [[(b, .inr (37, [.ref arr, .int (nI 0), .int (nI ml), .int (nI c.length)]))]] (fun (rv_ : Option Value) (rL_ : List va_W) => rv_ = some (.int (nI c.length)) ∧ rL_ = [[(b, .inr (37, [.ref arr, .int (nI 0), .int (nI ml), .int (nI c.length)]))]]) noX := by
  refine Ct.of "java/lang/StringBuilder" [some (.ref b)] rfl (by decide) rfl (Nat.le_of_ble_eq_true rfl) rfl ?_
  intro κ B E tb
  refine g_aload_n (q := 1) B dJ22_length_0 rfl rfl (rv_r _) ?_
  refine g_callSU (q := 4) (is := [0]) (kc2 := 0) (ks2 := 0) B [] (ct_J21_length g J (b := b) (c := c) (arr := arr) (ml := ml)  ) dJ22_length_1 rfl (ci := 37) rfl (rc_at B (ci := 37) rfl (k := 0) rfl) (by decide) q587 q583 q415 q582 q106 q588 rfl rfl moJ21_length rfl rfl (by decide) (by decide) (Nat.le_of_ble_eq_true rfl) (Nat.le_of_ble_eq_true rfl) (Nat.le_of_ble_eq_true rfl) (fun _ _ hx => noX_x hx) (fun v1 L1 hp1 => ?_)
  obtain ⟨rfl, rfl⟩ := hp1
  refine (show Go g κ 4 [some (.ref b)] [.int (nI c.length)] [[(b, .inr (37, [.ref arr, .int (nI 0), .int (nI ml), .int (nI c.length)]))]] 0 0 from ?_)
  exact g_iret B E dJ22_length_4 (⟨rfl, rfl⟩)
theorem moJ21_getValue : Mo yJ21_getValue 0 := by
  refine ⟨by decide, by decide, by decide +kernel⟩
theorem moJ13_copyOfRange : Mo yJ13_copyOfRange 3 := by
  refine ⟨by decide, by decide, by decide +kernel⟩
theorem ct_J16_init_2 (g : Gv) (J : Jd g) {b : Nat} {c : List Nat} {arr : Nat} {ml : Nat} {s : Nat} (hc : c.length < 16) (ha : asc c) : Ct g yJ16_init_2 (ws_ yJ16_init_2 cJ16_init_2 5 none) 3 1 c.length [.ref s, .ref b, .null] [[(s, .inr (36, [.null, .int (nI 0), .int (nI 0), .int (nI 0)]))], [(b, .inr (37, [.ref arr, .int (nI 0), .int (nI ml), .int (nI c.length)]))], [(arr, .inl (g.2.1 2, 16, .inl (byt c)))]] (fun (rv_ : Option Value) (rL_ : List va_W) => ∃ (v : Nat), rv_ = none ∧ rL_ = [[(s, .inr (36, [.ref v, .int (nI 0), .int (nI 0), .int (nI 0)]))], [(v, .inl (g.2.1 2, c.length, .inl (byt c)))], [(b, .inr (37, [.ref arr, .int (nI 0), .int (nI ml), .int (nI c.length)]))], [(arr, .inl (g.2.1 2, 16, .inl (byt c)))]]) noX := by
  refine Ct.ofI "java/lang/String" [some (.ref s), some (.ref b), some (.null), none, none] rfl (by decide) rfl (Nat.le_of_ble_eq_true rfl) rfl rfl ?_
  intro κ B E tb ini
  refine g_aload_n (q := 1) B dJ16_init_2_0 rfl rfl (rv_r _) ?_
  refine g_objInit (q := 4) B q575 q157 q158 dJ16_init_2_1 rfl rfl (Nat.le_of_ble_eq_true rfl) ?_
  refine g_aload_n (q := 5) B dJ16_init_2_4 rfl rfl (rv_r _) ?_
  refine g_callU (q := 8) (is := [1]) (kc2 := 1) (ks2 := c.length) B [] (ct_J21_getValue g J (b := b) (c := c) (arr := arr) (ml := ml)  ) dJ16_init_2_5 rfl (rc_at B (ci := 37) rfl (k := 1) rfl) rfl (by decide) q576 q578 q579 q577 q106 q580 rfl rfl moJ21_getValue rfl rfl (by decide) (by decide) (Nat.le_of_ble_eq_true rfl) (Nat.le_of_ble_eq_true rfl) (by omega) (fun _ _ hx => noX_x hx) (fun v5 L1 hp5 => ?_)
  obtain ⟨rfl, rfl⟩ := hp5
  refine (show Go g κ 8 [some (.ref s), some (.ref b), some (.null), none, none] [.ref arr] [[(s, .inr (36, [.null, .int (nI 0), .int (nI 0), .int (nI 0)]))], [(arr, .inl (g.2.1 2, 16, .inl (byt c)))], [(b, .inr (37, [.ref arr, .int (nI 0), .int (nI ml), .int (nI c.length)]))]] 1 c.length from ?_)
  refine g_astore_n (q := 9) (lv2 := [some (.ref s), some (.ref b), some (.null), some (.ref arr), none]) B dJ16_init_2_8 rfl (Nat.le_of_ble_eq_true rfl) (rv_r _) rfl ?_
  refine g_aload_n (q := 10) B dJ16_init_2_9 rfl rfl (rv_r _) ?_
  refine g_callO (q := 13) (is := [2]) (kc2 := 1) (ks2 := c.length) B [] (ct_J22_length g J (b := b) (c := c) (arr := arr) (ml := ml)  ) dJ16_init_2_10 rfl (rc_at B (ci := 37) rfl (k := 2) rfl) q588 (by decide) (lw_app (fun w hw => by simp only [List.mem_cons, List.not_mem_nil, or_false] at hw; rcases hw with e | e | e | e | e | e <;> rw [e]; exact q581; exact q583; exact q582; exact q584; exact q585; exact q107) (lw_meth q586)) rfl rfl moJ21_length rfl rfl (by decide) (by decide) (Nat.le_of_ble_eq_true rfl) (Nat.le_of_ble_eq_true rfl) (by omega) (fun _ _ hx => noX_x hx) (fun v10 L1 hp10 => ?_)
  obtain ⟨rfl, rfl⟩ := hp10
  refine (show Go g κ 13 [some (.ref s), some (.ref b), some (.null), some (.ref arr), none] [.int (nI c.length)] [[(s, .inr (36, [.null, .int (nI 0), .int (nI 0), .int (nI 0)]))], [(arr, .inl (g.2.1 2, 16, .inl (byt c)))], [(b, .inr (37, [.ref arr, .int (nI 0), .int (nI ml), .int (nI c.length)]))]] 1 c.length from ?_)
  refine g_istore (q := 15) (lv2 := [some (.ref s), some (.ref b), some (.null), some (.ref arr), some (.int (nI c.length))]) B dJ16_init_2_13 rfl (Nat.le_of_ble_eq_true rfl) rfl ?_
  refine g_aload_n (q := 16) B dJ16_init_2_15 rfl rfl (rv_r _) ?_
  refine g_callU (q := 19) (is := [2]) (kc2 := 1) (ks2 := c.length) B [] (ct_J21_isLatin1 g J (b := b) (c := c) (arr := arr) (ml := ml)  ) dJ16_init_2_16 rfl (rc_at B (ci := 37) rfl (k := 2) rfl) rfl (by decide) q589 q466 q467 q465 q106 q468 rfl rfl moJ21_isLatin1 rfl rfl (by decide) (by decide) (Nat.le_of_ble_eq_true rfl) (Nat.le_of_ble_eq_true rfl) (by omega) (fun _ _ hx => noX_x hx) (fun v16 L1 hp16 => ?_)
  obtain ⟨rfl, rfl⟩ := hp16
  refine (show Go g κ 19 [some (.ref s), some (.ref b), some (.null), some (.ref arr), some (.int (nI c.length))] [.int (nI 1)] [[(s, .inr (36, [.null, .int (nI 0), .int (nI 0), .int (nI 0)]))], [(arr, .inl (g.2.1 2, 16, .inl (byt c)))], [(b, .inr (37, [.ref arr, .int (nI 0), .int (nI ml), .int (nI c.length)]))]] 1 c.length from ?_)
  refine g_if_eq (tgt := 41) (q := 22) B dJ16_init_2_19 rfl (by decide) (iff_false_intro (by decide)) (fun z => z.elim) (fun _ => ?_)
  refine g_aload_n (q := 23) B dJ16_init_2_22 rfl rfl (rv_r _) ?_
  refine g_iconst (v := nI 0) (q := 24) B dJ16_init_2_23 rfl (by decide) ?_
  refine g_putF (q := 27) (L2 := [[(s, .inr (36, [.null, .int (nI 0), .int (nI 0), .int (nI 0)]))], [(arr, .inl (g.2.1 2, 16, .inl (byt c)))], [(b, .inr (37, [.ref arr, .int (nI 0), .int (nI ml), .int (nI c.length)]))]]) B (ci := 36) (k := 0) (j := 1) in_J16 tyJ16 tyJ16_ok nmJ16 rfl dJ16_init_2_24 rfl rfl (Nat.le_of_ble_eq_true rfl) q653 rfl rfl (ini) rfl rfl rfl (Nat.le_of_ble_eq_true rfl) rfl ?_
  refine g_aload_n (q := 28) B dJ16_init_2_27 rfl rfl (rv_r _) ?_
  refine g_aload_n (q := 29) B dJ16_init_2_28 rfl rfl (rv_r _) ?_
  refine g_iconst (v := nI 0) (q := 30) B dJ16_init_2_29 rfl (by decide) ?_
  refine g_iload (q := 32) B dJ16_init_2_30 rfl rfl ?_
  refine g_callS (q := 35) (is := [1]) (kc2 := 0) (ks2 := c.length - c.length) B [.ref arr, .int (nI 0), .int (nI c.length)] (ct_J13_copyOfRange g J (c := c) (arr := arr)  (by first | assumption | omega | rfl) (by first | assumption | omega | rfl)) dJ16_init_2_32 rfl q590 q591 q94 q592 rfl rfl moJ13_copyOfRange rfl rfl (by decide) (by decide) (Nat.le_of_ble_eq_true rfl) (Nat.le_of_ble_eq_true rfl) (by omega) (fun _ _ hx => noX_x hx) (fun v32 L1 hp32 => ?_)
  obtain ⟨b32, rfl, rfl⟩ := hp32
  refine (show Go g κ 35 [some (.ref s), some (.ref b), some (.null), some (.ref arr), some (.int (nI c.length))] [.ref b32, .ref s] [[(s, .inr (36, [.null, .int (nI 0), .int (nI 0), .int (nI 0)]))], [(b, .inr (37, [.ref arr, .int (nI 0), .int (nI ml), .int (nI c.length)]))], [(arr, .inl (g.2.1 2, 16, .inl (byt c)))], [(b32, .inl (g.2.1 2, c.length, .inl (byt c)))]] 0 (c.length - c.length) from ?_)
  refine g_putF (q := 38) (L2 := [[(s, .inr (36, [.ref b32, .int (nI 0), .int (nI 0), .int (nI 0)]))], [(b, .inr (37, [.ref arr, .int (nI 0), .int (nI ml), .int (nI c.length)]))], [(arr, .inl (g.2.1 2, 16, .inl (byt c)))], [(b32, .inl (g.2.1 2, c.length, .inl (byt c)))]]) B (ci := 36) (k := 0) (j := 0) in_J16 tyJ16 tyJ16_ok nmJ16 rfl dJ16_init_2_35 rfl rfl (Nat.le_of_ble_eq_true rfl) q652 rfl rfl (ini) rfl rfl rfl (Nat.le_of_ble_eq_true rfl) rfl ?_
  refine g_goto (tgt := 97) B dJ16_init_2_38 (by decide) ?_
  refine g_pk [0, 2, 0, 0] rfl rfl ?_
  refine (show Go g κ 97 [some (.ref s), some (.ref b), some (.null), some (.ref arr), some (.int (nI c.length))] [] [[(s, .inr (36, [.ref b32, .int (nI 0), .int (nI 0), .int (nI 0)]))], [(b32, .inl (g.2.1 2, c.length, .inl (byt c)))], [(b, .inr (37, [.ref arr, .int (nI 0), .int (nI ml), .int (nI c.length)]))], [(arr, .inl (g.2.1 2, 16, .inl (byt c)))]] 0 (c.length - c.length) from ?_)
  exact g_vret B E dJ16_init_2_97 (⟨b32, rfl, rfl⟩)
theorem moJ16_init_2 : Mo yJ16_init_2 2 := by
  refine ⟨by decide, by decide, by decide +kernel⟩
theorem ct_J16_init (g : Gv) (J : Jd g) {b : Nat} {c : List Nat} {arr : Nat} {ml : Nat} {s : Nat} (hc : c.length < 16) (ha : asc c) : Ct g yJ16_init (ws_ yJ16_init cJ16_init 2 none) 4 1 c.length [.ref s, .ref b] [[(s, .inr (36, [.null, .int (nI 0), .int (nI 0), .int (nI 0)]))], [(b, .inr (37, [.ref arr, .int (nI 0), .int (nI ml), .int (nI c.length)]))], [(arr, .inl (g.2.1 2, 16, .inl (byt c)))]] (fun (rv_ : Option Value) (rL_ : List va_W) => ∃ (v : Nat), rv_ = none ∧ rL_ = [[(s, .inr (36, [.ref v, .int (nI 0), .int (nI 0), .int (nI 0)]))], [(v, .inl (g.2.1 2, c.length, .inl (byt c)))], [(b, .inr (37, [.ref arr, .int (nI 0), .int (nI ml), .int (nI c.length)]))], [(arr, .inl (g.2.1 2, 16, .inl (byt c)))]]) noX := by
  refine Ct.ofI "java/lang/String" [some (.ref s), some (.ref b)] rfl (by decide) rfl (Nat.le_of_ble_eq_true rfl) rfl rfl ?_
  intro κ B E tb ini
  refine g_aload_n (q := 1) B dJ16_init_0 rfl rfl (rv_r _) ?_
  refine g_aload_n (q := 2) B dJ16_init_1 rfl rfl (rv_r _) ?_
  refine g_aconst_null (q := 3) B dJ16_init_2 rfl ?_
  refine g_callI (q := 6) (is := [0, 0, 0]) (kc2 := 0) (ks2 := c.length - c.length) B [.ref b, .null] (ct_J16_init_2 g J (b := b) (c := c) (arr := arr) (ml := ml) (s := s)  (by first | assumption | omega | rfl) (by first | assumption | omega | rfl)) dJ16_init_3 rfl rfl q572 q573 q99 q574 rfl rfl moJ16_init_2 rfl rfl (by decide) (by decide) (Nat.le_of_ble_eq_true rfl) (Nat.le_of_ble_eq_true rfl) (by omega) (fun _ _ hx => noX_x hx) (fun v3 L1 hp3 => ?_)
  obtain ⟨v3, rfl, rfl⟩ := hp3
  refine (show Go g κ 6 [some (.ref s), some (.ref b)] [] [[(s, .inr (36, [.ref v3, .int (nI 0), .int (nI 0), .int (nI 0)]))], [(v3, .inl (g.2.1 2, c.length, .inl (byt c)))], [(b, .inr (37, [.ref arr, .int (nI 0), .int (nI ml), .int (nI c.length)]))], [(arr, .inl (g.2.1 2, 16, .inl (byt c)))]] 0 (c.length - c.length) from ?_)
  exact g_vret B E dJ16_init_6 (⟨v3, rfl, rfl⟩)
theorem nwJ16 : ∀ j, j < 4 → defaultValue (tyJ16 j) = vp_V [.null, .int (nI 0), .int (nI 0), .int (nI 0)] j := by
  intro j hj
  match j, hj with
  | 0, _ => rfl
  | 1, _ => rfl
  | 2, _ => rfl
  | 3, _ => rfl
  | n + 4, hj => exact absurd hj (by omega)
theorem moJ16_init : Mo yJ16_init 1 := by
  refine ⟨by decide, by decide, by decide +kernel⟩
theorem ct_J22_toString (g : Gv) (J : Jd g) {b : Nat} {c : List Nat} {w0 : va_W} (hw0 : SbP g b c w0) (hc : c.length < 16) : Ct g yJ22_toString (ws_ yJ22_toString cJ22_toString 1 (some (.object "java/lang/String"))) 5 2 (c.length + 4) [.ref b] [w0] (fun (rv_ : Option Value) (rL_ : List va_W) => ∃ (s : Nat) (u0 : va_W), rv_ = some (.ref s) ∧ rL_ = [u0] ∧ StrP g s c u0) noX := by
  refine Ct.of "java/lang/StringBuilder" [some (.ref b)] rfl (by decide) rfl (Nat.le_of_ble_eq_true rfl) rfl ?_
  intro κ B E tb
  obtain ⟨arr, ml, hc1, hc2, hml, rfl⟩ := hw0
  refine g_open 0 rfl rfl rfl ?_
  refine (show Go g κ 0 [some (.ref b)] [] [[(b, .inr (37, [.ref arr, .int (nI 0), .int (nI ml), .int (nI c.length)]))], [(arr, .inl (g.2.1 2, 16, .inl (byt c)))]] 2 (c.length + 4) from ?_)
  refine g_new (q := 3) (kc2 := 1) (ks2 := (c.length + 4) - 4) (fs := [.null, .int (nI 0), .int (nI 0), .int (nI 0)]) B (ci := 36) in_J16 tyJ16_ok rfl dJ22_toString_0 rfl q567 q568 q99 (nwJ16) (Nat.le_of_ble_eq_true rfl) (by omega) (fun n0 => ?_)
  refine (show Go g κ 3 [some (.ref b)] [.ref n0] [[(b, .inr (37, [.ref arr, .int (nI 0), .int (nI ml), .int (nI c.length)]))], [(arr, .inl (g.2.1 2, 16, .inl (byt c)))], [(n0, .inr (36, [.null, .int (nI 0), .int (nI 0), .int (nI 0)]))]] 1 ((c.length + 4) - 4) from ?_)
  refine g_dup (q := 4) B dJ22_toString_3 rfl rfl ?_
  refine g_aload_n (q := 5) B dJ22_toString_4 rfl rfl (rv_r _) ?_
  refine g_callI (q := 8) (is := [2, 0, 0]) (kc2 := 0) (ks2 := ((c.length + 4) - 4) - c.length) B [.ref b] (ct_J16_init g J (b := b) (c := c) (arr := arr) (ml := ml) (s := n0)  (by first | assumption | omega | rfl) (by first | assumption | omega | rfl)) dJ22_toString_5 rfl rfl q569 q570 q99 q571 rfl rfl moJ16_init rfl rfl (by decide) (by decide) (Nat.le_of_ble_eq_true rfl) (Nat.le_of_ble_eq_true rfl) (by omega) (fun _ _ hx => noX_x hx) (fun v5 L1 hp5 => ?_)
  obtain ⟨v5, rfl, rfl⟩ := hp5
  refine (show Go g κ 8 [some (.ref b)] [.ref n0] [[(n0, .inr (36, [.ref v5, .int (nI 0), .int (nI 0), .int (nI 0)]))], [(v5, .inl (g.2.1 2, c.length, .inl (byt c)))], [(b, .inr (37, [.ref arr, .int (nI 0), .int (nI ml), .int (nI c.length)]))], [(arr, .inl (g.2.1 2, 16, .inl (byt c)))]] 0 (((c.length + 4) - 4) - c.length) from ?_)
  obtain ⟨wc_1, ewc_1⟩ : ∃ w : va_W, w = ([[(n0, .inr (36, [.ref v5, .int (nI 0), .int (nI 0), .int (nI 0)]))], [(v5, .inl (g.2.1 2, c.length, .inl (byt c)))]] : List va_W).flatten := ⟨_, rfl⟩
  have hwc_1 : StrP g n0 c wc_1 := by
    rw [ewc_1]
    exact ⟨v5, 0, 0, hc2, by omega, Or.inl rfl, Or.inl rfl, rfl⟩
  refine g_close (w := wc_1) [0, 0] rfl ewc_1 rfl ?_
  refine (show Go g κ 8 [some (.ref b)] [.ref n0] [[(b, .inr (37, [.ref arr, .int (nI 0), .int (nI ml), .int (nI c.length)]))], [(arr, .inl (g.2.1 2, 16, .inl (byt c)))], wc_1] 0 (((c.length + 4) - 4) - c.length) from ?_)
  refine g_pk [2] rfl rfl ?_
  refine (show Go g κ 8 [some (.ref b)] [.ref n0] [wc_1] 0 (((c.length + 4) - 4) - c.length) from ?_)
  exact g_aret B E dJ22_toString_8 (by first | exact Or.inl ⟨_, rfl⟩ | exact Or.inr ⟨_, rfl⟩) (rv_r _) (⟨n0, wc_1, rfl, rfl, hwc_1⟩)
theorem hN_snoc (c : List Nat) (b : Nat) : hN (c ++ [b]) = 31 * hN c + b := by unfold hN; rw [List.foldl_append]; rfl
theorem hN_take {c : List Nat} {i : Nat} (h : i < c.length) : hN (c.take (i + 1)) = 31 * hN (c.take i) + c.getD i 0 := by
  rw [List.take_succ, List.getElem?_eq_getElem h, List.getD_eq_getElem?_getD, List.getElem?_eq_getElem h]
  exact hN_snoc _ _
theorem ct_J11_signedHashCode (g : Gv) (J : Jd g) {c : List Nat} {arr : Nat} (hc : c.length < 16777216) (ha : asc c) : Ct g yJ11_signedHashCode (ws_ yJ11_signedHashCode cJ11_signedHashCode 6 (some .int)) 0 0 0 [.int (nI 0), .ref arr, .int (nI 0), .int (nI c.length)] [[(arr, .inl (g.2.1 2, c.length, .inl (byt c)))]] (fun (rv_ : Option Value) (rL_ : List va_W) => rv_ = some (.int (nI (hN c))) ∧ rL_ = [[(arr, .inl (g.2.1 2, c.length, .inl (byt c)))]]) noX := by
  refine Ct.of "jdk/internal/util/ArraysSupport" [some (.int (nI 0)), some (.ref arr), some (.int (nI 0)), some (.int (nI c.length)), none, none] rfl (by decide) rfl (Nat.le_of_ble_eq_true rfl) rfl ?_
  intro κ B E tb
  refine g_iload_n (q := 1) B dJ11_signedHashCode_0 rfl rfl ?_
  refine g_iload_n (q := 2) B dJ11_signedHashCode_1 rfl rfl ?_
  refine g_iadd (v := nI (0 + c.length)) (q := 3) B dJ11_signedHashCode_2 rfl (nI_add _ _) ?_
  refine g_istore (q := 5) (lv2 := [some (.int (nI 0)), some (.ref arr), some (.int (nI 0)), some (.int (nI c.length)), some (.int (nI (0 + c.length))), none]) B dJ11_signedHashCode_3 rfl (Nat.le_of_ble_eq_true rfl) rfl ?_
  refine g_iload_n (q := 6) B dJ11_signedHashCode_5 rfl rfl ?_
  refine g_istore (q := 8) (lv2 := [some (.int (nI 0)), some (.ref arr), some (.int (nI 0)), some (.int (nI c.length)), some (.int (nI (0 + c.length))), some (.int (nI 0))]) B dJ11_signedHashCode_6 rfl (Nat.le_of_ble_eq_true rfl) rfl ?_
  have lp8 : ∀ (n8 : Nat) (i : Nat) , (i ≤ c.length) → c.length - i = n8 → Go g κ 8 [some (.int (nI (hN (c.take i)))), some (.ref arr), some (.int (nI 0)), some (.int (nI c.length)), some (.int (nI (0 + c.length))), some (.int (nI i))] [] [[(arr, .inl (g.2.1 2, c.length, .inl (byt c)))]] 0 0 := by
    intro n8
    induction n8 using Nat.strongRecOn with
    | _ n8 ih8 =>
    intro i  hi hmu8
    refine g_iload (q := 10) B dJ11_signedHashCode_8 rfl rfl ?_
    refine g_iload (q := 12) B dJ11_signedHashCode_10 rfl rfl ?_
    refine g_icmp_ge (tgt := 35) (q := 15) B dJ11_signedHashCode_12 rfl (by decide) (nI_leI (by omega) (by omega)) (fun c12 => ?_) (fun c12 => ?_)
    · skip
      refine g_iload_n (q := 36) B dJ11_signedHashCode_35 rfl rfl ?_
      exact g_iret B E dJ11_signedHashCode_36 (⟨by rw [List.take_of_length_le (by omega)], rfl⟩)
    · skip
      refine g_bipush (v := nI 31) (q := 17) B dJ11_signedHashCode_15 rfl (by decide) ?_
      refine g_iload_n (q := 18) B dJ11_signedHashCode_17 rfl rfl ?_
      refine g_imul (v := nI (31 * hN (c.take i))) (q := 19) B dJ11_signedHashCode_18 rfl (pk_mul _ _) ?_
      refine g_aload_n (q := 20) B dJ11_signedHashCode_19 rfl rfl (rv_r _) ?_
      refine g_iload (q := 22) B dJ11_signedHashCode_20 rfl rfl ?_
      refine g_bald (v := nI (c.getD i 0)) (q := 23) B (k := 0) dJ11_signedHashCode_22 rfl rfl (vp_in_nI (by omega) (by omega)) (by rw [nI_clamp (by omega)]; rfl) ?_
      refine g_sipush (v := nI 255) (q := 26) B dJ11_signedHashCode_23 rfl (by decide) ?_
      refine g_iand (v := nI (c.getD i 0)) (q := 27) B dJ11_signedHashCode_26 rfl (by_255 _ (asc_at ha i)) ?_
      refine g_iadd (v := nI (hN (c.take (i + 1)))) (q := 28) B dJ11_signedHashCode_27 rfl (by rw [hN_take (by omega)]; exact nI_add _ _) ?_
      refine g_istore_n (q := 29) (lv2 := [some (.int (nI (hN (c.take (i + 1))))), some (.ref arr), some (.int (nI 0)), some (.int (nI c.length)), some (.int (nI (0 + c.length))), some (.int (nI i))]) B dJ11_signedHashCode_28 rfl (Nat.le_of_ble_eq_true rfl) rfl ?_
      refine g_iinc (v := nI (i + 1)) (q := 32) (lv2 := [some (.int (nI (hN (c.take (i + 1))))), some (.ref arr), some (.int (nI 0)), some (.int (nI c.length)), some (.int (nI (0 + c.length))), some (.int (nI (i + 1)))]) B dJ11_signedHashCode_29 rfl rfl (nI_add _ 1) (Nat.le_of_ble_eq_true rfl) rfl ?_
      refine g_goto (tgt := 8) B dJ11_signedHashCode_32 (by decide) ?_
      exact ih8 _ (by omega) (i + 1) (by first | assumption | omega | rfl) rfl
  exact lp8 _ 0 (by first | assumption | omega | rfl) rfl
theorem moJ11_signedHashCode : Mo yJ11_signedHashCode 4 := by
  refine ⟨by decide, by decide, by decide +kernel⟩
theorem ct_J11_vectorizedHashCode (g : Gv) (J : Jd g) {c : List Nat} {arr : Nat} (hc : c.length < 16777216) (ha : asc c) : Ct g yJ11_vectorizedHashCode (ws_ yJ11_vectorizedHashCode cJ11_vectorizedHashCode 5 (some .int)) 1 0 0 [.ref arr, .int (nI 0), .int (nI c.length), .int (nI 0), .int (nI 4)] [[(arr, .inl (g.2.1 2, c.length, .inl (byt c)))]] (fun (rv_ : Option Value) (rL_ : List va_W) => rv_ = some (.int (nI (hN c))) ∧ rL_ = [[(arr, .inl (g.2.1 2, c.length, .inl (byt c)))]]) noX := by
  refine Ct.of "jdk/internal/util/ArraysSupport" [some (.ref arr), some (.int (nI 0)), some (.int (nI c.length)), some (.int (nI 0)), some (.int (nI 4))] rfl (by decide) rfl (Nat.le_of_ble_eq_true rfl) rfl ?_
  intro κ B E tb
  refine g_iload (q := 2) B dJ11_vectorizedHashCode_0 rfl rfl ?_
  refine g_tabIn (tgt := 44) (off := 42) B dJ11_vectorizedHashCode_2 (by decide) (by decide) (by decide) (by decide) ?_
  refine (show Go g κ 44 [some (.ref arr), some (.int (nI 0)), some (.int (nI c.length)), some (.int (nI 0)), some (.int (nI 4))] [] [[(arr, .inl (g.2.1 2, c.length, .inl (byt c)))]] 0 0 from ?_)
  refine g_iload_n (q := 45) B dJ11_vectorizedHashCode_44 rfl rfl ?_
  refine g_aload_n (q := 46) B dJ11_vectorizedHashCode_45 rfl rfl (rv_r _) ?_
  refine g_castB (q := 49) B (k := 0) dJ11_vectorizedHashCode_46 rfl rfl q1310 ?_
  refine g_iload_n (q := 50) B dJ11_vectorizedHashCode_49 rfl rfl ?_
  refine g_iload_n (q := 51) B dJ11_vectorizedHashCode_50 rfl rfl ?_
  refine g_callS (q := 54) (is := [0]) (kc2 := 0) (ks2 := 0) B [.int (nI 0), .ref arr, .int (nI 0), .int (nI c.length)] (ct_J11_signedHashCode g J (c := c) (arr := arr)  (by first | assumption | omega | rfl) (by first | assumption | omega | rfl)) dJ11_vectorizedHashCode_51 rfl q1311 q1312 q92 q1313 rfl rfl moJ11_signedHashCode rfl rfl (by decide) (by decide) (Nat.le_of_ble_eq_true rfl) (Nat.le_of_ble_eq_true rfl) (Nat.le_of_ble_eq_true rfl) (fun _ _ hx => noX_x hx) (fun v51 L1 hp51 => ?_)
  obtain ⟨rfl, rfl⟩ := hp51
  refine (show Go g κ 54 [some (.ref arr), some (.int (nI 0)), some (.int (nI c.length)), some (.int (nI 0)), some (.int (nI 4))] [.int (nI (hN c))] [[(arr, .inl (g.2.1 2, c.length, .inl (byt c)))]] 0 0 from ?_)
  refine g_goto (tgt := 157) B dJ11_vectorizedHashCode_54 (by decide) ?_
  exact g_iret B E dJ11_vectorizedHashCode_157 (⟨rfl, rfl⟩)
theorem lks {n : Nat} (h : 2 ≤ n) (h2 : n < 16777216) : Op.lookupswitch.offset [((0 : Int), (26 : Int)), (1, 30)] 40 (nI n).toInt = 40 := by
  have e : (nI n).toInt = (n : Int) := nI_toInt (by omega)
  rw [e]
  rw [Op.lookupswitch.offset_cons, if_neg (by omega), Op.lookupswitch.offset_cons, if_neg (by omega)]
  rfl
theorem moJ11_vectorizedHashCode : Mo yJ11_vectorizedHashCode 5 := by
  refine ⟨by decide, by decide, by decide +kernel⟩
theorem ct_J24_hashCode (g : Gv) (J : Jd g) {c : List Nat} {arr : Nat} (hc : c.length < 16777216) (hc2 : 2 ≤ c.length) (ha : asc c) : Ct g yJ24_hashCode (ws_ yJ24_hashCode cJ24_hashCode 1 (some .int)) 2 0 0 [.ref arr] [[(arr, .inl (g.2.1 2, c.length, .inl (byt c)))]] (fun (rv_ : Option Value) (rL_ : List va_W) => rv_ = some (.int (nI (hN c))) ∧ rL_ = [[(arr, .inl (g.2.1 2, c.length, .inl (byt c)))]]) noX := by
  refine Ct.of "java/lang/StringLatin1" [some (.ref arr)] rfl (by decide) rfl (Nat.le_of_ble_eq_true rfl) rfl ?_
  intro κ B E tb
  refine g_aload_n (q := 1) B dJ24_hashCode_0 rfl rfl (rv_r _) ?_
  refine g_alen (v := nI c.length) (q := 2) B (k := 0) (t := 2) dJ24_hashCode_1 rfl rfl rfl rfl ?_
  refine g_lookup (tgt := 42) B dJ24_hashCode_2 (by decide) (lks hc2 (by omega)) (by decide) ?_
  refine (show Go g κ 42 [some (.ref arr)] [] [[(arr, .inl (g.2.1 2, c.length, .inl (byt c)))]] 0 0 from ?_)
  refine g_aload_n (q := 43) B dJ24_hashCode_42 rfl rfl (rv_r _) ?_
  refine g_iconst (v := nI 0) (q := 44) B dJ24_hashCode_43 rfl (by decide) ?_
  refine g_aload_n (q := 45) B dJ24_hashCode_44 rfl rfl (rv_r _) ?_
  refine g_alen (v := nI c.length) (q := 46) B (k := 0) (t := 2) dJ24_hashCode_45 rfl rfl rfl rfl ?_
  refine g_iconst (v := nI 0) (q := 47) B dJ24_hashCode_46 rfl (by decide) ?_
  refine g_iconst (v := nI 4) (q := 48) B dJ24_hashCode_47 rfl (by decide) ?_
  refine g_callS (q := 51) (is := [0]) (kc2 := 0) (ks2 := 0) B [.ref arr, .int (nI 0), .int (nI c.length), .int (nI 0), .int (nI 4)] (ct_J11_vectorizedHashCode g J (c := c) (arr := arr)  (by first | assumption | omega | rfl) (by first | assumption | omega | rfl)) dJ24_hashCode_48 rfl q1307 q1308 q92 q1309 rfl rfl moJ11_vectorizedHashCode rfl rfl (by decide) (by decide) (Nat.le_of_ble_eq_true rfl) (Nat.le_of_ble_eq_true rfl) (Nat.le_of_ble_eq_true rfl) (fun _ _ hx => noX_x hx) (fun v48 L1 hp48 => ?_)
  obtain ⟨rfl, rfl⟩ := hp48
  refine (show Go g κ 51 [some (.ref arr)] [.int (nI (hN c))] [[(arr, .inl (g.2.1 2, c.length, .inl (byt c)))]] 0 0 from ?_)
  exact g_iret B E dJ24_hashCode_51 (⟨rfl, rfl⟩)
theorem ct_J16_isLatin1 (g : Gv) (J : Jd g) {s : Nat} {arr : Nat} {hh : Int32} {hz : Nat} : Ct g yJ16_isLatin1 (ws_ yJ16_isLatin1 cJ16_isLatin1 1 (some .boolean)) 0 0 0 [.ref s] [[(s, .inr (36, [.ref arr, .int (nI 0), .int hh, .int (nI hz)]))]] (fun (rv_ : Option Value) (rL_ : List va_W) => rv_ = some (.int (nI 1)) ∧ rL_ = [[(s, .inr (36, [.ref arr, .int (nI 0), .int hh, .int (nI hz)]))]]) noX := by
  refine Ct.of "java/lang/String" [some (.ref s)] rfl (by decide) rfl (Nat.le_of_ble_eq_true rfl) rfl ?_
  intro κ B E tb
  refine g_gets (q := 3) B (J.2.2.1 _ (List.mem_of_getElem? (i := 1) rfl)) dJ16_isLatin1_0 rfl q503 ?_
  refine g_if_eq (tgt := 17) (q := 6) B dJ16_isLatin1_3 rfl (by decide) (iff_false_intro (by decide)) (fun z => z.elim) (fun _ => ?_)
  refine g_aload_n (q := 7) B dJ16_isLatin1_6 rfl rfl (rv_r _) ?_
  refine g_get (q := 10) B (ci := 36) (k := 0) (j := 1) in_J16 rfl dJ16_isLatin1_7 rfl rfl (Nat.le_of_ble_eq_true rfl) q653 rfl rfl ?_
  refine g_if_ne (tgt := 17) (q := 13) B dJ16_isLatin1_10 rfl (by decide) (iff_false_intro (by decide)) (fun z => z.elim) (fun _ => ?_)
  refine g_iconst (v := nI 1) (q := 14) B dJ16_isLatin1_13 rfl (by decide) ?_
  refine g_goto (tgt := 18) B dJ16_isLatin1_14 (by decide) ?_
  exact g_zret B E dJ16_isLatin1_18 (by decide) (⟨rfl, rfl⟩)
theorem moJ16_isLatin1 : Mo yJ16_isLatin1 0 := by
  refine ⟨by decide, by decide, by decide +kernel⟩
theorem moJ24_hashCode : Mo yJ24_hashCode 1 := by
  refine ⟨by decide, by decide, by decide +kernel⟩
theorem ct_J16_hashCode (g : Gv) (J : Jd g) {s : Nat} {c : List Nat} {w0 : va_W} (hw0 : StrP g s c w0) (hc2 : 2 ≤ c.length) : Ct g yJ16_hashCode (ws_ yJ16_hashCode cJ16_hashCode 2 (some .int)) 3 0 0 [.ref s] [w0] (fun (rv_ : Option Value) (rL_ : List va_W) => ∃ (u0 : va_W), rv_ = some (.int (nI (hN c))) ∧ rL_ = [u0] ∧ StrP g s c u0) noX := by
  refine Ct.of "java/lang/String" [some (.ref s), none] rfl (by decide) rfl (Nat.le_of_ble_eq_true rfl) rfl ?_
  intro κ B E tb
  obtain ⟨arr, hz, hh, ha, hc, hhh, hhz, rfl⟩ := hw0
  refine g_open 0 rfl rfl rfl ?_
  refine (show Go g κ 0 [some (.ref s), none] [] [[(s, .inr (36, [.ref arr, .int (nI 0), .int hh, .int (nI hz)]))], [(arr, .inl (g.2.1 2, c.length, .inl (byt c)))]] 0 0 from ?_)
  refine g_aload_n (q := 1) B dJ16_hashCode_0 rfl rfl (rv_r _) ?_
  refine g_get (q := 4) B (ci := 36) (k := 0) (j := 2) in_J16 rfl dJ16_hashCode_1 rfl rfl (Nat.le_of_ble_eq_true rfl) q654 rfl rfl ?_
  refine g_istore_n (q := 5) (lv2 := [some (.ref s), some (.int hh)]) B dJ16_hashCode_4 rfl (Nat.le_of_ble_eq_true rfl) rfl ?_
  refine g_iload_n (q := 6) B dJ16_hashCode_5 rfl rfl ?_
  refine g_if_ne (tgt := 58) (q := 9) B dJ16_hashCode_6 rfl (by decide) (Iff.rfl) (fun c6 => ?_) (fun c6 => ?_)
  · skip
    refine g_iload_n (q := 59) B dJ16_hashCode_58 rfl rfl ?_
    obtain ⟨wc_1, ewc_1⟩ : ∃ w : va_W, w = ([[(s, .inr (36, [.ref arr, .int (nI 0), .int hh, .int (nI hz)]))], [(arr, .inl (g.2.1 2, c.length, .inl (byt c)))]] : List va_W).flatten := ⟨_, rfl⟩
    have hwc_1 : StrP g s c wc_1 := by
      rw [ewc_1]
      exact ⟨arr, _, _, ha, hc, hhh, hhz, rfl⟩
    refine g_close (w := wc_1) [0, 0] rfl ewc_1 rfl ?_
    refine (show Go g κ 59 [some (.ref s), some (.int hh)] [.int hh] [wc_1] 0 0 from ?_)
    exact g_iret B E dJ16_hashCode_59 (⟨_, by rw [hhh.resolve_left c6], rfl, hwc_1⟩)
  · skip
    refine g_aload_n (q := 10) B dJ16_hashCode_9 rfl rfl (rv_r _) ?_
    refine g_get (q := 13) B (ci := 36) (k := 0) (j := 3) in_J16 rfl dJ16_hashCode_10 rfl rfl (Nat.le_of_ble_eq_true rfl) q655 rfl rfl ?_
    refine g_if_ne (tgt := 58) (q := 16) B dJ16_hashCode_13 rfl (by decide) (nI_ne00 (by rcases hhz with h | h <;> omega)) (fun c13 => ?_) (fun c13 => ?_)
    · skip
      refine g_iload_n (q := 59) B dJ16_hashCode_58 rfl rfl ?_
      obtain ⟨wc_2, ewc_2⟩ : ∃ w : va_W, w = ([[(s, .inr (36, [.ref arr, .int (nI 0), .int hh, .int (nI hz)]))], [(arr, .inl (g.2.1 2, c.length, .inl (byt c)))]] : List va_W).flatten := ⟨_, rfl⟩
      have hwc_2 : StrP g s c wc_2 := by
        rw [ewc_2]
        exact ⟨arr, _, _, ha, hc, hhh, hhz, rfl⟩
      refine g_close (w := wc_2) [0, 0] rfl ewc_2 rfl ?_
      refine (show Go g κ 59 [some (.ref s), some (.int hh)] [.int hh] [wc_2] 0 0 from ?_)
      exact g_iret B E dJ16_hashCode_59 (⟨_, by rw [Classical.not_not.mp c6, (hhz.resolve_left c13).2], rfl, hwc_2⟩)
    · skip
      refine g_aload_n (q := 17) B dJ16_hashCode_16 rfl rfl (rv_r _) ?_
      refine g_callV (q := 20) (is := [0]) (kc2 := 0) (ks2 := 0) B [] (ct_J16_isLatin1 g J (s := s) (arr := arr) (hh := hh) (hz := hz)  ) dJ16_hashCode_17 rfl (rc_at B (ci := 36) rfl (k := 0) rfl) rfl q1300 q1301 q1302 q99 q1303 rfl rfl moJ16_isLatin1 rfl rfl (by decide) (by decide) (Nat.le_of_ble_eq_true rfl) (Nat.le_of_ble_eq_true rfl) (Nat.le_of_ble_eq_true rfl) (fun _ _ hx => noX_x hx) (fun v17 L1 hp17 => ?_)
      obtain ⟨rfl, rfl⟩ := hp17
      refine (show Go g κ 20 [some (.ref s), some (.int hh)] [.int (nI 1)] [[(arr, .inl (g.2.1 2, c.length, .inl (byt c)))], [(s, .inr (36, [.ref arr, .int (nI 0), .int hh, .int (nI hz)]))]] 0 0 from ?_)
      refine g_if_eq (tgt := 33) (q := 23) B dJ16_hashCode_20 rfl (by decide) (iff_false_intro (by decide)) (fun z => z.elim) (fun _ => ?_)
      refine g_aload_n (q := 24) B dJ16_hashCode_23 rfl rfl (rv_r _) ?_
      refine g_get (q := 27) B (ci := 36) (k := 1) (j := 0) in_J16 rfl dJ16_hashCode_24 rfl rfl (Nat.le_of_ble_eq_true rfl) q652 rfl rfl ?_
      refine g_callS (q := 30) (is := [0]) (kc2 := 0) (ks2 := 0) B [.ref arr] (ct_J24_hashCode g J (c := c) (arr := arr)  (by first | assumption | omega | rfl) (by first | assumption | omega | rfl) (by first | assumption | omega | rfl)) dJ16_hashCode_27 rfl q1304 q1305 q109 q1306 rfl rfl moJ24_hashCode rfl rfl (by decide) (by decide) (Nat.le_of_ble_eq_true rfl) (Nat.le_of_ble_eq_true rfl) (Nat.le_of_ble_eq_true rfl) (fun _ _ hx => noX_x hx) (fun v27 L1 hp27 => ?_)
      obtain ⟨rfl, rfl⟩ := hp27
      refine (show Go g κ 30 [some (.ref s), some (.int hh)] [.int (nI (hN c))] [[(s, .inr (36, [.ref arr, .int (nI 0), .int hh, .int (nI hz)]))], [(arr, .inl (g.2.1 2, c.length, .inl (byt c)))]] 0 0 from ?_)
      refine g_goto (tgt := 40) B dJ16_hashCode_30 (by decide) ?_
      refine g_istore_n (q := 41) (lv2 := [some (.ref s), some (.int (nI (hN c)))]) B dJ16_hashCode_40 rfl (Nat.le_of_ble_eq_true rfl) rfl ?_
      refine g_iload_n (q := 42) B dJ16_hashCode_41 rfl rfl ?_
      refine g_if_ne (tgt := 53) (q := 45) B dJ16_hashCode_42 rfl (by decide) (Iff.rfl) (fun c42 => ?_) (fun c42 => ?_)
      · skip
        refine g_aload_n (q := 54) B dJ16_hashCode_53 rfl rfl (rv_r _) ?_
        refine g_iload_n (q := 55) B dJ16_hashCode_54 rfl rfl ?_
        refine g_put (q := 58) (L2 := [[(s, .inr (36, [.ref arr, .int (nI 0), .int (nI (hN c)), .int (nI hz)]))], [(arr, .inl (g.2.1 2, c.length, .inl (byt c)))]]) B (ci := 36) (k := 0) (j := 2) in_J16 tyJ16 tyJ16_ok nmJ16 rfl dJ16_hashCode_55 rfl rfl (Nat.le_of_ble_eq_true rfl) q654 rfl rfl rfl rfl (Nat.le_of_ble_eq_true rfl) rfl ?_
        refine g_iload_n (q := 59) B dJ16_hashCode_58 rfl rfl ?_
        obtain ⟨wc_3, ewc_3⟩ : ∃ w : va_W, w = ([[(s, .inr (36, [.ref arr, .int (nI 0), .int (nI (hN c)), .int (nI hz)]))], [(arr, .inl (g.2.1 2, c.length, .inl (byt c)))]] : List va_W).flatten := ⟨_, rfl⟩
        have hwc_3 : StrP g s c wc_3 := by
          rw [ewc_3]
          exact ⟨arr, _, _, ha, hc, Or.inr rfl, hhz, rfl⟩
        refine g_close (w := wc_3) [0, 0] rfl ewc_3 rfl ?_
        refine (show Go g κ 59 [some (.ref s), some (.int (nI (hN c)))] [.int (nI (hN c))] [wc_3] 0 0 from ?_)
        exact g_iret B E dJ16_hashCode_59 (⟨_, rfl, rfl, hwc_3⟩)
      · skip
        have c42 := Classical.not_not.mp c42
        refine g_aload_n (q := 46) B dJ16_hashCode_45 rfl rfl (rv_r _) ?_
        refine g_iconst (v := nI 1) (q := 47) B dJ16_hashCode_46 rfl (by decide) ?_
        refine g_put (q := 50) (L2 := [[(s, .inr (36, [.ref arr, .int (nI 0), .int hh, .int (nI 1)]))], [(arr, .inl (g.2.1 2, c.length, .inl (byt c)))]]) B (ci := 36) (k := 0) (j := 3) in_J16 tyJ16 tyJ16_ok nmJ16 rfl dJ16_hashCode_47 rfl rfl (Nat.le_of_ble_eq_true rfl) q655 rfl rfl rfl rfl (Nat.le_of_ble_eq_true rfl) rfl ?_
        refine g_goto (tgt := 58) B dJ16_hashCode_50 (by decide) ?_
        refine g_iload_n (q := 59) B dJ16_hashCode_58 rfl rfl ?_
        obtain ⟨wc_4, ewc_4⟩ : ∃ w : va_W, w = ([[(s, .inr (36, [.ref arr, .int (nI 0), .int hh, .int (nI 1)]))], [(arr, .inl (g.2.1 2, c.length, .inl (byt c)))]] : List va_W).flatten := ⟨_, rfl⟩
        have hwc_4 : StrP g s c wc_4 := by
          rw [ewc_4]
          exact ⟨arr, _, _, ha, hc, hhh, Or.inr ⟨rfl, c42⟩, rfl⟩
        refine g_close (w := wc_4) [0, 0] rfl ewc_4 rfl ?_
        refine (show Go g κ 59 [some (.ref s), some (.int (nI (hN c)))] [.int (nI (hN c))] [wc_4] 0 0 from ?_)
        exact g_iret B E dJ16_hashCode_59 (⟨_, rfl, rfl, hwc_4⟩)
theorem ct_J24_equals (g : Gv) (J : Jd g) {c : List Nat} {arr : Nat} {arr2 : Nat} (hc : c.length < 16777216) : Ct g yJ24_equals (ws_ yJ24_equals cJ24_equals 3 (some .boolean)) 0 0 0 [.ref arr, .ref arr2] [[(arr, .inl (g.2.1 2, c.length, .inl (byt c)))], [(arr2, .inl (g.2.1 2, c.length, .inl (byt c)))]] (fun (rv_ : Option Value) (rL_ : List va_W) => rv_ = some (.int (nI 1)) ∧ rL_ = [[(arr, .inl (g.2.1 2, c.length, .inl (byt c)))], [(arr2, .inl (g.2.1 2, c.length, .inl (byt c)))]]) noX := by
  refine Ct.of "java/lang/StringLatin1" [some (.ref arr), some (.ref arr2), none] rfl (by decide) rfl (Nat.le_of_ble_eq_true rfl) rfl ?_
  intro κ B E tb
  refine g_aload_n (q := 1) B dJ24_equals_0 rfl rfl (rv_r _) ?_
  refine g_alen (v := nI c.length) (q := 2) B (k := 0) (t := 2) dJ24_equals_1 rfl rfl rfl rfl ?_
  refine g_aload_n (q := 3) B dJ24_equals_2 rfl rfl (rv_r _) ?_
  refine g_alen (v := nI c.length) (q := 4) B (k := 1) (t := 2) dJ24_equals_3 rfl rfl rfl rfl ?_
  refine g_icmp_ne (tgt := 34) (q := 7) B dJ24_equals_4 rfl (by decide) (iff_false_intro (fun h => h rfl)) (fun z => z.elim) (fun _ => ?_)
  refine g_iconst (v := nI 0) (q := 8) B dJ24_equals_7 rfl (by decide) ?_
  refine g_istore_n (q := 9) (lv2 := [some (.ref arr), some (.ref arr2), some (.int (nI 0))]) B dJ24_equals_8 rfl (Nat.le_of_ble_eq_true rfl) rfl ?_
  have lp9 : ∀ (n9 : Nat) (i : Nat) , (i ≤ c.length) → c.length - i = n9 → Go g κ 9 [some (.ref arr), some (.ref arr2), some (.int (nI i))] [] [[(arr, .inl (g.2.1 2, c.length, .inl (byt c)))], [(arr2, .inl (g.2.1 2, c.length, .inl (byt c)))]] 0 0 := by
    intro n9
    induction n9 using Nat.strongRecOn with
    | _ n9 ih9 =>
    intro i  hi hmu9
    refine g_iload_n (q := 10) B dJ24_equals_9 rfl rfl ?_
    refine g_aload_n (q := 11) B dJ24_equals_10 rfl rfl (rv_r _) ?_
    refine g_alen (v := nI c.length) (q := 12) B (k := 0) (t := 2) dJ24_equals_11 rfl rfl rfl rfl ?_
    refine g_icmp_ge (tgt := 32) (q := 15) B dJ24_equals_12 rfl (by decide) (nI_leI (by omega) (by omega)) (fun c12 => ?_) (fun c12 => ?_)
    · skip
      refine g_iconst (v := nI 1) (q := 33) B dJ24_equals_32 rfl (by decide) ?_
      exact g_zret B E dJ24_equals_33 (by decide) (⟨rfl, rfl⟩)
    · skip
      refine g_aload_n (q := 16) B dJ24_equals_15 rfl rfl (rv_r _) ?_
      refine g_iload_n (q := 17) B dJ24_equals_16 rfl rfl ?_
      refine g_bald (v := (byt c) i) (q := 18) B (k := 0) dJ24_equals_17 rfl rfl (vp_in_nI (by omega) (by omega)) (by rw [nI_clamp (by omega)]) ?_
      refine g_aload_n (q := 19) B dJ24_equals_18 rfl rfl (rv_r _) ?_
      refine g_iload_n (q := 20) B dJ24_equals_19 rfl rfl ?_
      refine g_bald (v := (byt c) i) (q := 21) B (k := 1) dJ24_equals_20 rfl rfl (vp_in_nI (by omega) (by omega)) (by rw [nI_clamp (by omega)]) ?_
      refine g_icmp_eq (tgt := 26) (q := 24) B dJ24_equals_21 rfl (by decide) (iff_true_intro (rfl)) (fun _ => ?_) (fun z => absurd trivial z)
      refine g_iinc (v := nI (i + 1)) (q := 29) (lv2 := [some (.ref arr), some (.ref arr2), some (.int (nI (i + 1)))]) B dJ24_equals_26 rfl rfl (nI_add _ 1) (Nat.le_of_ble_eq_true rfl) rfl ?_
      refine g_goto (tgt := 9) B dJ24_equals_29 (by decide) ?_
      exact ih9 _ (by omega) (i + 1) (by first | assumption | omega | rfl) rfl
  exact lp9 _ 0 (by first | assumption | omega | rfl) rfl
theorem moJ24_equals : Mo yJ24_equals 2 := by
  refine ⟨by decide, by decide, by decide +kernel⟩
theorem ct_J16_equals (g : Gv) (J : Jd g) {s : Nat} {t : Nat} {c : List Nat} {w0 : va_W} {w1 : va_W} (hw0 : StrP g s c w0) (hw1 : StrP g t c w1) : Ct g yJ16_equals (ws_ yJ16_equals cJ16_equals 3 (some .boolean)) 1 0 0 [.ref s, .ref t] [w0, w1] (fun (rv_ : Option Value) (rL_ : List va_W) => ∃ (u0 : va_W) (u1 : va_W), rv_ = some (.int (nI 1)) ∧ rL_ = [u0, u1] ∧ StrP g s c u0 ∧ StrP g t c u1) noX := by
  refine Ct.of "java/lang/String" [some (.ref s), some (.ref t), none] rfl (by decide) rfl (Nat.le_of_ble_eq_true rfl) rfl ?_
  intro κ B E tb
  refine g_aload_n (q := 1) B dJ16_equals_0 rfl rfl (rv_r _) ?_
  refine g_aload_n (q := 2) B dJ16_equals_1 rfl rfl (rv_r _) ?_
  refine g_acmp_ne (rx := some s) (ry := some t) (tgt := 7) (q := 5) B dJ16_equals_2 rfl (by decide) rfl rfl (Iff.rfl) (fun c2 => ?_) (fun c2 => ?_)
  · skip
    obtain ⟨arr, hz, hh, ha, hc, hhh, hhz, rfl⟩ := hw0
    refine g_open 0 rfl rfl rfl ?_
    refine (show Go g κ 7 [some (.ref s), some (.ref t), none] [] [w1, [(s, .inr (36, [.ref arr, .int (nI 0), .int hh, .int (nI hz)]))], [(arr, .inl (g.2.1 2, c.length, .inl (byt c)))]] 0 0 from ?_)
    obtain ⟨arr2, hz2, hh2, ha2, hc2, hhh2, hhz2, rfl⟩ := hw1
    refine g_open 0 rfl rfl rfl ?_
    refine (show Go g κ 7 [some (.ref s), some (.ref t), none] [] [[(s, .inr (36, [.ref arr, .int (nI 0), .int hh, .int (nI hz)]))], [(arr, .inl (g.2.1 2, c.length, .inl (byt c)))], [(t, .inr (36, [.ref arr2, .int (nI 0), .int hh2, .int (nI hz2)]))], [(arr2, .inl (g.2.1 2, c.length, .inl (byt c)))]] 0 0 from ?_)
    refine g_aload_n (q := 8) B dJ16_equals_7 rfl rfl (rv_r _) ?_
    refine g_instRS (ci := 36) (q := 11) B rfl (rc_at B (ci := 36) rfl (k := 2) rfl) dJ16_equals_8 rfl q1399 ?_
    refine g_if_eq (tgt := 54) (q := 14) B dJ16_equals_11 rfl (by decide) (iff_false_intro (by decide)) (fun z => z.elim) (fun _ => ?_)
    refine g_aload_n (q := 15) B dJ16_equals_14 rfl rfl (rv_r _) ?_
    refine g_castRS (ci := 36) (q := 18) B rfl (rc_at B (ci := 36) rfl (k := 2) rfl) dJ16_equals_15 rfl q1399 ?_
    refine g_astore_n (q := 19) (lv2 := [some (.ref s), some (.ref t), some (.ref t)]) B dJ16_equals_18 rfl (Nat.le_of_ble_eq_true rfl) (rv_r _) rfl ?_
    refine g_gets (q := 22) B (J.2.2.1 _ (List.mem_of_getElem? (i := 1) rfl)) dJ16_equals_19 rfl q503 ?_
    refine g_if_eq (tgt := 36) (q := 25) B dJ16_equals_22 rfl (by decide) (iff_false_intro (by decide)) (fun z => z.elim) (fun _ => ?_)
    refine g_aload_n (q := 26) B dJ16_equals_25 rfl rfl (rv_r _) ?_
    refine g_get (q := 29) B (ci := 36) (k := 0) (j := 1) in_J16 rfl dJ16_equals_26 rfl rfl (Nat.le_of_ble_eq_true rfl) q653 rfl rfl ?_
    refine g_aload_n (q := 30) B dJ16_equals_29 rfl rfl (rv_r _) ?_
    refine g_get (q := 33) B (ci := 36) (k := 2) (j := 1) in_J16 rfl dJ16_equals_30 rfl rfl (Nat.le_of_ble_eq_true rfl) q653 rfl rfl ?_
    refine g_icmp_ne (tgt := 54) (q := 36) B dJ16_equals_33 rfl (by decide) (iff_false_intro (by decide)) (fun z => z.elim) (fun _ => ?_)
    refine g_aload_n (q := 37) B dJ16_equals_36 rfl rfl (rv_r _) ?_
    refine g_get (q := 40) B (ci := 36) (k := 0) (j := 0) in_J16 rfl dJ16_equals_37 rfl rfl (Nat.le_of_ble_eq_true rfl) q652 rfl rfl ?_
    refine g_aload_n (q := 41) B dJ16_equals_40 rfl rfl (rv_r _) ?_
    refine g_get (q := 44) B (ci := 36) (k := 2) (j := 0) in_J16 rfl dJ16_equals_41 rfl rfl (Nat.le_of_ble_eq_true rfl) q652 rfl rfl ?_
    refine g_callS (q := 47) (is := [1, 2]) (kc2 := 0) (ks2 := 0) B [.ref arr, .ref arr2] (ct_J24_equals g J (c := c) (arr := arr) (arr2 := arr2)  (by first | assumption | omega | rfl)) dJ16_equals_44 rfl q1400 q1401 q109 q1402 rfl rfl moJ24_equals rfl rfl (by decide) (by decide) (Nat.le_of_ble_eq_true rfl) (Nat.le_of_ble_eq_true rfl) (Nat.le_of_ble_eq_true rfl) (fun _ _ hx => noX_x hx) (fun v44 L1 hp44 => ?_)
    obtain ⟨rfl, rfl⟩ := hp44
    refine (show Go g κ 47 [some (.ref s), some (.ref t), some (.ref t)] [.int (nI 1)] [[(s, .inr (36, [.ref arr, .int (nI 0), .int hh, .int (nI hz)]))], [(t, .inr (36, [.ref arr2, .int (nI 0), .int hh2, .int (nI hz2)]))], [(arr, .inl (g.2.1 2, c.length, .inl (byt c)))], [(arr2, .inl (g.2.1 2, c.length, .inl (byt c)))]] 0 0 from ?_)
    refine g_if_eq (tgt := 54) (q := 50) B dJ16_equals_47 rfl (by decide) (iff_false_intro (by decide)) (fun z => z.elim) (fun _ => ?_)
    refine g_iconst (v := nI 1) (q := 51) B dJ16_equals_50 rfl (by decide) ?_
    refine g_goto (tgt := 55) B dJ16_equals_51 (by decide) ?_
    obtain ⟨wc_1, ewc_1⟩ : ∃ w : va_W, w = ([[(s, .inr (36, [.ref arr, .int (nI 0), .int hh, .int (nI hz)]))], [(arr, .inl (g.2.1 2, c.length, .inl (byt c)))]] : List va_W).flatten := ⟨_, rfl⟩
    have hwc_1 : StrP g s c wc_1 := by
      rw [ewc_1]
      exact ⟨arr, _, _, ha, hc, hhh, hhz, rfl⟩
    refine g_close (w := wc_1) [0, 1] rfl ewc_1 rfl ?_
    refine (show Go g κ 55 [some (.ref s), some (.ref t), some (.ref t)] [.int (nI 1)] [[(t, .inr (36, [.ref arr2, .int (nI 0), .int hh2, .int (nI hz2)]))], [(arr2, .inl (g.2.1 2, c.length, .inl (byt c)))], wc_1] 0 0 from ?_)
    obtain ⟨wc_2, ewc_2⟩ : ∃ w : va_W, w = ([[(t, .inr (36, [.ref arr2, .int (nI 0), .int hh2, .int (nI hz2)]))], [(arr2, .inl (g.2.1 2, c.length, .inl (byt c)))]] : List va_W).flatten := ⟨_, rfl⟩
    have hwc_2 : StrP g t c wc_2 := by
      rw [ewc_2]
      exact ⟨arr2, _, _, ha2, hc2, hhh2, hhz2, rfl⟩
    refine g_close (w := wc_2) [0, 0] rfl ewc_2 rfl ?_
    refine (show Go g κ 55 [some (.ref s), some (.ref t), some (.ref t)] [.int (nI 1)] [wc_1, wc_2] 0 0 from ?_)
    exact g_zret B E dJ16_equals_55 (by decide) (⟨wc_1, wc_2, rfl, rfl, hwc_1, hwc_2⟩)
  · skip
    refine g_iconst (v := nI 1) (q := 6) B dJ16_equals_5 rfl (by decide) ?_
    exact g_zret B E dJ16_equals_6 (by decide) (⟨w0, w1, rfl, rfl, hw0, hw1⟩)
