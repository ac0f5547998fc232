set_option maxRecDepth 100000
def putL (vs : List Nat) (o : Option Nat) : List Nat := match o with
  | none => vs
  | some x => if vs.contains x = true then vs else vs ++ [x]
theorem mem_putL (vs : List Nat) (o : Option Nat) (x : Nat) : x ∈ putL vs o ↔ x ∈ vs ∨ o = some x := by
  unfold putL
  cases o with
  | none => simp
  | some y =>
    show x ∈ (if vs.contains y = true then vs else vs ++ [y]) ↔ _
    split
    · rename_i h
      have h : y ∈ vs := by simpa using h
      constructor
      · exact Or.inl
      · rintro (z | z)
        · exact z
        · cases z; exact h
    · rw [List.mem_append, List.mem_singleton]
      constructor
      · rintro (z | z)
        · exact Or.inl z
        · exact Or.inr (by rw [z])
      · rintro (z | z)
        · exact Or.inl z
        · cases z; exact Or.inr rfl
theorem nd_putL {vs : List Nat} (o : Option Nat) (h : vs.Nodup) : (putL vs o).Nodup := by
  unfold putL
  cases o with
  | none => exact h
  | some y =>
    show (if vs.contains y = true then vs else vs ++ [y]).Nodup
    split
    · exact h
    · rename_i z
      have z : y ∉ vs := by simpa using z
      rw [List.nodup_append]
      exact ⟨h, by simp, fun a ha b hb => by simp at hb; rw [hb]; intro e; rw [e] at ha; exact z ha⟩
theorem putL_len (vs : List Nat) (o : Option Nat) : vs.length ≤ (putL vs o).length ∧ (putL vs o).length ≤ vs.length + 1 := by
  unfold putL
  cases o with
  | none => exact ⟨Nat.le_refl _, Nat.le_succ _⟩
  | some y =>
    show vs.length ≤ (if vs.contains y = true then vs else vs ++ [y]).length ∧ (if vs.contains y = true then vs else vs ++ [y]).length ≤ _
    split
    · exact ⟨Nat.le_refl _, Nat.le_succ _⟩
    · simp
theorem putL_in {vs : List Nat} {x : Nat} (h : x ∈ vs) : putL vs (some x) = vs := by
  show (if vs.contains x = true then vs else vs ++ [x]) = vs
  rw [if_pos (by simpa using h)]
theorem putL_new {vs : List Nat} {x : Nat} (h : x ∉ vs) : putL vs (some x) = vs ++ [x] := by
  show (if vs.contains x = true then vs else vs ++ [x]) = _
  rw [if_neg (by simpa using h)]
theorem nodup_len : ∀ (n : Nat) (vs : List Nat), vs.Nodup → (∀ x ∈ vs, x < n) → vs.length ≤ n
  | 0, [], _, _ => Nat.le_refl _
  | 0, x :: _, _, h => absurd (h x (by simp)) (Nat.not_lt_zero x)
  | n + 1, vs, hd, h => by
    have h1 := nodup_len n (vs.erase n) (hd.erase n) fun x hx => by
      have h2 := (List.Nodup.mem_erase_iff hd).mp hx
      have := h x h2.2
      omega
    have h3 : vs.length ≤ (vs.erase n).length + 1 := by rw [List.length_erase]; split <;> omega
    omega
theorem BgM.atS {α : Type} {E : Nat → α → va_W → Prop} {F : Nat → Option α} {f : Nat → Option Nat} {W : va_W} (h : Sub (BgM E f F) W) (ho : ∀ k, 16 ≤ k → f k = none ∧ F k = none) {k a : Nat} (hf : f k = some a) : ∃ r, F k = some r ∧ Sub (E a r) W := by
  obtain ⟨w, R, hp, h⟩ := h
  obtain ⟨r, h1, h2⟩ := MoE.at h (fun k hk => ho k (by omega)) hf
  exact ⟨r, h1, h2.up hp⟩
theorem BgM.noS {α : Type} {E : Nat → α → va_W → Prop} {F : Nat → Option α} {f : Nat → Option Nat} {W : va_W} (h : Sub (BgM E f F) W) (ho : ∀ k, 16 ≤ k → f k = none ∧ F k = none) {k : Nat} (hf : f k = none) : F k = none := by
  obtain ⟨w, R, hp, h⟩ := h
  exact (MoE.iffB h (fun k hk => ho k (by omega)) k).mp hf
/-- what a package's owner holds of the first k packages -/
def pkM (Ks : List MkS) (p k x : Nat) : Prop := ∃ i q, i < k ∧ Ks[i]? = some q ∧ q.1 = p ∧ ¬ q.2.2.2.2 = true ∧ (x = q.2.1 ∨ x = q.2.2.1)
def mcH (c : McS) (x : Nat) : Prop := x = c.1 ∨ x ∈ c.2.2.map (·.2)
/-- what a person holds now -/
def helM (Ks : List MkS) (Es : List MeS) (p : Nat) (r : MpS) (x : Nat) : Prop := pkM Ks p Ks.length x ∨ ∃ e ep, mEp r = some e ∧ Es[e]? = some ep ∧ (x = mLs r ∨ mRn r = some x ∨ upT (mNd r) (fun n x => x = n) 31 x ∨ x = eGo ep ∨ x = eKy ep ∨ upT (mCh r) mcH 16 x)
theorem pkM_0 (Ks : List MkS) (p x : Nat) : ¬ pkM Ks p 0 x := by rintro ⟨i, q, h, -⟩; exact absurd h (Nat.not_lt_zero i)
theorem pkM_n {Ks : List MkS} {p k : Nat} {q : MkS} (hq : Ks[k]? = some q) (h : ¬ (q.1 = p ∧ ¬ q.2.2.2.2 = true)) (x : Nat) : pkM Ks p (k + 1) x ↔ pkM Ks p k x := by
  constructor
  · rintro ⟨i, s, h1, h2, h3, h4, h5⟩
    rcases Nat.lt_or_ge i k with z | z
    · exact ⟨i, s, z, h2, h3, h4, h5⟩
    · rw [show i = k by omega, hq] at h2; cases h2; exact absurd ⟨h3, h4⟩ h
  · rintro ⟨i, s, h1, h2⟩; exact ⟨i, s, by omega, h2⟩
theorem pkM_y {Ks : List MkS} {p k : Nat} {q : MkS} (hq : Ks[k]? = some q) (h1 : q.1 = p) (h2 : ¬ q.2.2.2.2 = true) (x : Nat) : pkM Ks p (k + 1) x ↔ (pkM Ks p k x ∨ some q.2.1 = some x) ∨ some q.2.2.1 = some x := by
  constructor
  · rintro ⟨i, s, h1, h2, h3, h4, h5⟩
    rcases Nat.lt_or_ge i k with z | z
    · exact Or.inl (Or.inl ⟨i, s, z, h2, h3, h4, h5⟩)
    · rw [show i = k by omega, hq] at h2; cases h2
      rcases h5 with e | e
      · exact Or.inl (Or.inr (by rw [e]))
      · exact Or.inr (by rw [e])
  · rintro ((⟨i, s, h1, h2⟩ | e) | e)
    · exact ⟨i, s, by omega, h2⟩
    · cases e; exact ⟨k, q, by omega, hq, h1, h2, Or.inl rfl⟩
    · cases e; exact ⟨k, q, by omega, hq, h1, h2, Or.inr rfl⟩
theorem upT_so {F : Nat → Option Nat} {k : Nat} (x : Nat) : upT F (fun n x => x = n) (k + 1) x ↔ upT F (fun n x => x = n) k x ∨ F k = some x := by
  constructor
  · rintro ⟨n, c, h1, h2, h3⟩
    rcases Nat.lt_or_ge n k with z | z
    · exact Or.inl ⟨n, c, z, h2, h3⟩
    · rw [show n = k by omega] at h2; rw [h3]; exact Or.inr h2
  · rintro (⟨n, c, h1, h2, h3⟩ | h)
    · exact ⟨n, c, by omega, h2, h3⟩
    · exact ⟨k, x, by omega, h, rfl⟩
theorem upT_n1 {α : Type} {F : Nat → Option α} {Q : α → Nat → Prop} {k : Nat} (h : F k = none) (x : Nat) : upT F Q (k + 1) x ↔ upT F Q k x := by
  constructor
  · rintro ⟨n, c, h1, h2, h3⟩
    rcases Nat.lt_or_ge n k with z | z
    · exact ⟨n, c, z, h2, h3⟩
    · rw [show n = k by omega, h] at h2; cases h2
  · rintro ⟨n, c, h1, h2, h3⟩; exact ⟨n, c, by omega, h2, h3⟩
theorem mem_tk1 {l : List Nat} {j a : Nat} (h : l[j]? = some a) (x : Nat) : x ∈ l.take (j + 1) ↔ x ∈ l.take j ∨ some a = some x := by
  rw [List.take_add_one, h]
  simp [eq_comm]
theorem ct_X3_puts (g : Gv) (J : Jd g) {p : Nat} {vs : List Nat} {o : Option Nat} {w0 : va_W} (hw0 : LhP g (BxE g) p vs (capF vs.length) w0) (hob : ∀ n, o = some n → n < 1000) (hvb : ∀ x ∈ vs, x < 1000) (hvl : vs.length < 2000) : Ct g yX3_puts (ws_ yX3_puts cX3_puts 4 none) 7 (2 + (capF (putL vs o).length / 5 - capF vs.length / 5)) (5 + 4 * (capF (putL vs o).length - capF vs.length)) [.ref p, .int (oI o)] [w0] (fun (rv_ : Option Value) (rL_ : List va_W) => ∃ (u0 : va_W), rv_ = none ∧ rL_ = [u0] ∧ LhP g (BxE g) p (putL vs o) (capF (putL vs o).length) u0) noX := by
  refine Ct.of "KeygroveModel" [some (.ref p), some (.int (oI o)), none, none] rfl (by decide) rfl (Nat.le_of_ble_eq_true rfl) rfl ?_
  intro κ B E tb
  refine g_iload_n (q := 1) B dX3_puts_0 rfl rfl ?_
  refine g_iconst (v := -1) (q := 2) B dX3_puts_1 rfl (by decide) ?_
  refine g_icmp_ne (tgt := 6) (q := 5) B dX3_puts_2 rfl (by decide) (oI_nn ((fun n h => by have := hob n h; omega))) (fun c2 => ?_) (fun c2 => ?_)
  · skip
    obtain ⟨v2, ev2⟩ := Option.ne_none_iff_exists'.mp c2
    refine g_lvs (lv2 := [some (.ref p), some (.int (nI v2)), none, none]) (st2 := []) (by rw [(show oI o = nI v2 from by rw [ev2]; rfl)]) (by first | rfl | rw [(show oI o = nI v2 from by rw [ev2]; rfl)]) ?_
    have hvb2 := hob _ ev2
    refine g_aload_n (q := 7) B dX3_puts_6 rfl rfl (rv_r _) ?_
    obtain ⟨ps_1, md_1, hli_1, hln_1, hel_1⟩ := LhP.at (Sub.self hw0)
    refine g_callV (q := 10) (is := [0]) (kc2 := (2 + (capF (putL vs o).length / 5 - capF vs.length / 5)) - 1) (ks2 := (5 + 4 * (capF (putL vs o).length - capF vs.length)) - 4) B [] (ct_J2_iterator_s g J (p := p) (xs := ps_1) (md := md_1) (cap := (capF vs.length)) (W0 := w0)  (hli_1)) dX3_puts_7 rfl (rc_in B (ci := 21) rfl (k := 0) rfl (LhP.hm hw0)) rfl q3232 q805 q3668 q81 q807 rfl rfl moJ2_iterator rfl rfl (by decide) (by decide) (Nat.le_of_ble_eq_true rfl) (by omega) (by omega) (fun _ _ hx => noX_x hx) (fun v7 L1 hp7 => ?_)
    obtain ⟨it7, rfl, rfl⟩ := hp7
    refine (show Go g κ 10 [some (.ref p), some (.int (nI v2)), none, none] [.ref it7] [[(it7, .inr (22, [.int (nI 0), .int (-1), .int md_1, .ref p]))], w0] ((2 + (capF (putL vs o).length / 5 - capF vs.length / 5)) - 1) ((5 + 4 * (capF (putL vs o).length - capF vs.length)) - 4) from ?_)
    refine g_astore_n (q := 11) (lv2 := [some (.ref p), some (.int (nI v2)), some (.ref it7), none]) B dX3_puts_10 rfl (Nat.le_of_ble_eq_true rfl) (rv_r _) rfl ?_
    have lp11 : ∀ (n11 : Nat) (k : Nat) (lrt : Int32) , (k ≤ vs.length) → (∀ i x, i < k → vs[i]? = some x → x ≠ v2) → vs.length - k = n11 → Go g κ 11 [some (.ref p), some (.int (nI v2)), some (.ref it7), none] [] [[(it7, .inr (22, [.int (nI k), .int lrt, .int md_1, .ref p]))], w0] ((2 + (capF (putL vs o).length / 5 - capF vs.length / 5)) - 1) ((5 + 4 * (capF (putL vs o).length - capF vs.length)) - 4) := by
      intro n11
      induction n11 using Nat.strongRecOn with
      | _ n11 ih11 =>
      intro k lrt  hk hn hmu11
      refine g_aload_n (q := 12) B dX3_puts_11 rfl rfl (rv_r _) ?_
      refine g_callF (q := 17) (is := [0, 0]) (kc2 := (2 + (capF (putL vs o).length / 5 - capF vs.length / 5)) - 1) (ks2 := (5 + 4 * (capF (putL vs o).length - capF vs.length)) - 4) B [] (ct_J19_hasNext_s g J (p := p) (xs := ps_1) (md := md_1) (cap := (capF vs.length)) (it := it7) (c := k) (lr := lrt) (W1 := w0)  (hli_1) (by have := hln_1.1; omega)) dX3_puts_12 rfl (ci := 22) rfl (rc_at B (ci := 22) rfl (k := 0) rfl) q3234 q940 q942 q104 q944 q938 q937 q943 q941 q939 rfl rfl mojava_util_Iterator_hasNext___Z rfl rfl (by decide) (by decide) (Nat.le_of_ble_eq_true rfl) (by omega) (by omega) (fun _ _ hx => noX_x hx) (fun v12 L1 hp12 => ?_)
      obtain ⟨rfl, rfl⟩ := hp12
      refine (show Go g κ 17 [some (.ref p), some (.int (nI v2)), some (.ref it7), none] [.int (nI (if ¬ k = ps_1.length then 1 else 0))] [[(it7, .inr (22, [.int (nI k), .int lrt, .int md_1, .ref p]))], w0] ((2 + (capF (putL vs o).length / 5 - capF vs.length / 5)) - 1) ((5 + 4 * (capF (putL vs o).length - capF vs.length)) - 4) from ?_)
      rw [hln_1.1]
      refine (show Go g κ 17 [some (.ref p), some (.int (nI v2)), some (.ref it7), none] [.int (nI (if ¬ k = vs.length then 1 else 0))] [[(it7, .inr (22, [.int (nI k), .int lrt, .int md_1, .ref p]))], w0] ((2 + (capF (putL vs o).length / 5 - capF vs.length / 5)) - 1) ((5 + 4 * (capF (putL vs o).length - capF vs.length)) - 4) from ?_)
      refine g_if_eq (tgt := 42) (q := 20) B dX3_puts_17 rfl (by decide) (bo_eq) (fun c17 => ?_) (fun c17 => ?_)
      · skip
        have hni : v2 ∉ vs := by
          intro z
          obtain ⟨i, hi⟩ := List.getElem?_of_mem z
          exact hn i v2 (by have := get_lt2 hi; omega) hi rfl
        have hpe : putL vs o = vs ++ [v2] := by rw [ev2]; exact putL_new hni
        have hpl : (putL vs o).length = vs.length + 1 := by rw [hpe]; simp
        have hcp : capF (putL vs o).length = capF (vs.length + 1) := by rw [hpl]
        have h5 := cap5 vs.length
        have h5m := capF_mo vs.length
        refine g_aload_n (q := 43) B dX3_puts_42 rfl rfl (rv_r _) ?_
        refine g_iload_n (q := 44) B dX3_puts_43 rfl rfl ?_
        refine g_callS (q := 47) (is := []) (kc2 := (2 + (capF (putL vs o).length / 5 - capF vs.length / 5)) - 2) (ks2 := (5 + 4 * (capF (putL vs o).length - capF vs.length)) - 5) B [.int (nI v2)] (ct_J26_valueOf g J (v := nI v2)  ) dX3_puts_44 rfl q3242 q686 q111 q687 rfl rfl moJ26_valueOf rfl rfl (by decide) (by decide) (Nat.le_of_ble_eq_true rfl) (by omega) (by omega) (fun _ _ hx => noX_x hx) (fun v44 L1 hp44 => ?_)
        obtain ⟨a44, u0_44, rfl, rfl, hu0_44⟩ := hp44
        refine (show Go g κ 47 [some (.ref p), some (.int (nI v2)), some (.ref it7), none] [.ref a44, .ref p] [[(it7, .inr (22, [.int (nI k), .int lrt, .int md_1, .ref p]))], w0, u0_44] ((2 + (capF (putL vs o).length / 5 - capF vs.length / 5)) - 2) ((5 + 4 * (capF (putL vs o).length - capF vs.length)) - 5) from ?_)
        refine g_callV (q := 50) (is := [1, 1]) (kc2 := ((2 + (capF (putL vs o).length / 5 - capF vs.length / 5)) - 2) - (capF (vs.length + 1) / 5 - capF vs.length / 5)) (ks2 := ((5 + 4 * (capF (putL vs o).length - capF vs.length)) - 5) - (4 * (capF (vs.length + 1) - capF vs.length))) B [.ref a44] (ct_add_IlP g J (p := p) (rs := vs) (cap := (capF vs.length)) (a := a44) (r := v2) (mc := (capF (vs.length + 1) / 5 - capF vs.length / 5)) (ms := (4 * (capF (vs.length + 1) - capF vs.length))) hw0 hu0_44 (by have := capF_le vs.length; omega) (fun h => ⟨by have := (cap5 _).2 h; omega, capF_ms _ h⟩)) dX3_puts_47 rfl (rc_in B (ci := 21) rfl (k := 1) rfl (LhP.hm hw0)) rfl q3144 q711 q3666 q81 q713 rfl rfl moJ2_add rfl rfl (by decide) (by decide) (Nat.le_of_ble_eq_true rfl) (by omega) (by omega) (fun _ _ hx => noX_x hx) (fun v47 L1 hp47 => ?_)
        obtain ⟨u0_47, rfl, rfl, hu0_47⟩ := hp47
        refine (show Go g κ 50 [some (.ref p), some (.int (nI v2)), some (.ref it7), none] [.int (nI 1)] [[(it7, .inr (22, [.int (nI k), .int lrt, .int md_1, .ref p]))], u0_47] (((2 + (capF (putL vs o).length / 5 - capF vs.length / 5)) - 2) - (capF (vs.length + 1) / 5 - capF vs.length / 5)) (((5 + 4 * (capF (putL vs o).length - capF vs.length)) - 5) - (4 * (capF (vs.length + 1) - capF vs.length))) from ?_)
        have hr_2 : LhP g (BxE g) p (putL vs o) (capF (putL vs o).length) u0_47 := by rw [hcp, hpe, ← capF_s]; exact hu0_47
        refine g_pop (q := 51) B dX3_puts_50 rfl rfl ?_
        refine g_pk [1] rfl rfl ?_
        refine (show Go g κ 51 [some (.ref p), some (.int (nI v2)), some (.ref it7), none] [] [u0_47] (((2 + (capF (putL vs o).length / 5 - capF vs.length / 5)) - 2) - (capF (vs.length + 1) / 5 - capF vs.length / 5)) (((5 + 4 * (capF (putL vs o).length - capF vs.length)) - 5) - (4 * (capF (vs.length + 1) - capF vs.length))) from ?_)
        exact g_vret B E dX3_puts_51 (⟨u0_47, rfl, rfl, hr_2⟩)
      · skip
        have c17 := Classical.not_not.mp c17
        refine g_aload_n (q := 21) B dX3_puts_20 rfl rfl (rv_r _) ?_
        obtain ⟨r21, hr21⟩ := get_ex (xs := vs) (i := k) (by omega)
        obtain ⟨x21, hx21⟩ := get_ex (xs := ps_1) (i := k) (by have := get_lt2 hr21; have := hln_1.1; omega)
        have hb_3 := Sub.box (hel_1 _ _ _ hx21 hr21)
        refine g_callF (q := 26) (is := [0, 0]) (kc2 := (2 + (capF (putL vs o).length / 5 - capF vs.length / 5)) - 1) (ks2 := (5 + 4 * (capF (putL vs o).length - capF vs.length)) - 4) B [] (ct_J19_next_s g J (p := p) (xs := ps_1) (md := md_1) (cap := (capF vs.length)) (it := it7) (c := k) (lr := lrt) (x := x21) (W1 := w0)  (hli_1) (hx21)) dX3_puts_21 rfl (ci := 22) rfl (rc_at B (ci := 22) rfl (k := 0) rfl) q3236 q967 q969 q104 q971 q966 q965 q970 q968 q939 rfl rfl mojava_util_Iterator_next___Ljava_lang_Object_ rfl rfl (by decide) (by decide) (Nat.le_of_ble_eq_true rfl) (by omega) (by omega) (fun _ _ hx => noX_x hx) (fun v21 L1 hp21 => ?_)
        obtain ⟨rfl, rfl⟩ := hp21
        refine (show Go g κ 26 [some (.ref p), some (.int (nI v2)), some (.ref it7), none] [.ref x21] [[(it7, .inr (22, [.int (nI (k + 1)), .int (nI k), .int md_1, .ref p]))], w0] ((2 + (capF (putL vs o).length / 5 - capF vs.length / 5)) - 1) ((5 + 4 * (capF (putL vs o).length - capF vs.length)) - 4) from ?_)
        refine g_castRS (ci := 35) (q := 29) B rfl (rc_bxat B J (k := 1) rfl hb_3) dX3_puts_26 rfl q3240 ?_
        have hvb21 := hvb r21 (List.mem_of_getElem? hr21)
        refine g_callV (q := 32) (is := [1]) (kc2 := (2 + (capF (putL vs o).length / 5 - capF vs.length / 5)) - 1) (ks2 := (5 + 4 * (capF (putL vs o).length - capF vs.length)) - 4) B [] (ct_J26_intValue_b g J (a := x21) (v := nI r21) (wb := w0)  (hb_3)) dX3_puts_29 rfl (rc_bxat B J (k := 1) rfl hb_3) rfl q3241 q1052 q1053 q111 q1054 rfl rfl moJ26_intValue rfl rfl (by decide) (by decide) (Nat.le_of_ble_eq_true rfl) (by omega) (by omega) (fun _ _ hx => noX_x hx) (fun v29 L1 hp29 => ?_)
        obtain ⟨rfl, rfl⟩ := hp29
        refine (show Go g κ 32 [some (.ref p), some (.int (nI v2)), some (.ref it7), none] [.int (nI r21)] [[(it7, .inr (22, [.int (nI (k + 1)), .int (nI k), .int md_1, .ref p]))], w0] ((2 + (capF (putL vs o).length / 5 - capF vs.length / 5)) - 1) ((5 + 4 * (capF (putL vs o).length - capF vs.length)) - 4) from ?_)
        refine g_istore_n (q := 33) (lv2 := [some (.ref p), some (.int (nI v2)), some (.ref it7), some (.int (nI r21))]) B dX3_puts_32 rfl (Nat.le_of_ble_eq_true rfl) rfl ?_
        refine g_iload_n (q := 34) B dX3_puts_33 rfl rfl ?_
        refine g_iload_n (q := 35) B dX3_puts_34 rfl rfl ?_
        refine g_icmp_ne (tgt := 39) (q := 38) B dX3_puts_35 rfl (by decide) (not_congr (nI_eq (by omega) (by omega))) (fun c35 => ?_) (fun c35 => ?_)
        · skip
          refine g_goto (tgt := 11) B dX3_puts_39 (by decide) ?_
          refine g_fg 3 rfl ?_
          exact ih11 _ (by omega) (k + 1) (nI k) (by first | assumption | omega | rfl) (fun i x h1 h2 => by rcases Nat.lt_or_ge i k with z | z; exact hn i x z h2; rw [show i = k by omega, hr21] at h2; cases h2; exact c35) rfl
        · skip
          have hr_4 : LhP g (BxE g) p (putL vs o) (capF (putL vs o).length) w0 := by rw [ev2, ← Classical.not_not.mp c35, putL_in (List.mem_of_getElem? hr21)]; exact hw0
          refine g_pk [1] rfl rfl ?_
          refine (show Go g κ 38 [some (.ref p), some (.int (nI v2)), some (.ref it7), some (.int (nI r21))] [] [w0] ((2 + (capF (putL vs o).length / 5 - capF vs.length / 5)) - 1) ((5 + 4 * (capF (putL vs o).length - capF vs.length)) - 4) from ?_)
          exact g_vret B E dX3_puts_38 (⟨w0, rfl, rfl, hr_4⟩)
    exact lp11 _ 0 (-1) (Nat.zero_le _) (fun i x h => absurd h (Nat.not_lt_zero i)) rfl
  · skip
    have c2 := Classical.not_not.mp c2
    refine g_lvs (lv2 := [some (.ref p), some (.int (-1)), none, none]) (st2 := []) (by rw [(show oI o = -1 from by rw [c2]; rfl)]) (by first | rfl | rw [(show oI o = -1 from by rw [c2]; rfl)]) ?_
    have hr_5 : LhP g (BxE g) p (putL vs o) (capF (putL vs o).length) w0 := by rw [c2]; exact hw0
    exact g_vret B E dX3_puts_5 (⟨w0, rfl, rfl, hr_5⟩)
theorem mul_q {Q k : Nat} (h : k < 16) : (3 + 2 * Q) * (16 - k) = (3 + 2 * Q) * (15 - k) + (3 + 2 * Q) ∧ (9 + 5 * Q) * (16 - k) = (9 + 5 * Q) * (15 - k) + (9 + 5 * Q) := by
  obtain ⟨d, e⟩ : ∃ d, 16 - k = d + 1 := ⟨15 - k, by omega⟩
  rw [e, show 15 - k = d by omega, Nat.mul_succ, Nat.mul_succ]; exact ⟨rfl, rfl⟩
theorem hel_e {Ks : List MkS} {Es : List MeS} {i e k x : Nat} {r : MpS} {ep : MeS} (h1 : mEp r = some e) (h2 : Es[e]? = some ep) (hk : k = 16) : (((((pkM Ks i Ks.length x ∨ x = mLs r ∨ mRn r = some x) ∨ upT (mNd r) (fun n x => x = n) 31 x) ∨ x = eGo ep) ∨ x = eKy ep) ∨ upT (mCh r) mcH k x) ↔ helM Ks Es i r x := by
  subst hk
  unfold helM
  constructor
  · rintro (((((h | h | h) | h) | h) | h) | h)
    · exact Or.inl h
    · exact Or.inr ⟨e, ep, h1, h2, Or.inl h⟩
    · exact Or.inr ⟨e, ep, h1, h2, Or.inr (Or.inl h)⟩
    · exact Or.inr ⟨e, ep, h1, h2, Or.inr (Or.inr (Or.inl h))⟩
    · exact Or.inr ⟨e, ep, h1, h2, Or.inr (Or.inr (Or.inr (Or.inl h)))⟩
    · exact Or.inr ⟨e, ep, h1, h2, Or.inr (Or.inr (Or.inr (Or.inr (Or.inl h))))⟩
    · exact Or.inr ⟨e, ep, h1, h2, Or.inr (Or.inr (Or.inr (Or.inr (Or.inr h))))⟩
  · rintro (h | ⟨e2, ep2, h3, h4, h⟩)
    · exact Or.inl (Or.inl (Or.inl (Or.inl (Or.inl h))))
    · rw [h1] at h3; cases h3
      rw [h2] at h4; cases h4
      rcases h with h | h | h | h | h | h
      · exact Or.inl (Or.inl (Or.inl (Or.inl (Or.inr (Or.inl h)))))
      · exact Or.inl (Or.inl (Or.inl (Or.inl (Or.inr (Or.inr h)))))
      · exact Or.inl (Or.inl (Or.inl (Or.inr h)))
      · exact Or.inl (Or.inl (Or.inr h))
      · exact Or.inl (Or.inr h)
      · exact Or.inr h
theorem moX3_puts : Mo yX3_puts 2 := by
  refine ⟨by decide, by decide, by decide +kernel⟩
theorem ct_X3_heldBy (g : Gv) (J : Jd g) {m : Nat} {ls : Nat} {lb : Nat} {lk : Nat} {lp : Nat} {lr : Nat} {le : Nat} {lm : Nat} {lo : Nat} {th : Nat} {z : Int32} {bo : Nat} {cm : Nat} {mks : List Nat} {Ks : List MkS} {kcap : Nat} {mps : List Nat} {Ps : List MpS} {pcap : Nat} {Es : List MeS} {ecap : Nat} {i : Nat} {r : MpS} {n : Nat} {Q : Nat} {w1 : va_W} {w2 : va_W} {w3 : va_W} (hw1 : LoP g (MqP g) lk mks Ks kcap w1) (hw2 : LoP g (MpP g) lp mps Ps pcap w2) (hw3 : LhP g (EpP g) le Es ecap w3) (hr : Ps[i]? = some r) (hi16 : i < 1000) (hep : ∀ e, mEp r = some e → e < Es.length) (hq : ∀ k c, mCh r k = some c → c.2.2.length ≤ Q) (hbd : ∀ x, helM Ks Es i r x → x < n) (hn : n ≤ 1000) : Ct g yX3_heldBy (ws_ yX3_heldBy cX3_heldBy 11 (some (.object "java/util/ArrayList"))) 8 (120 + 4 * Ks.length + 32 * Q + capF n / 5) (330 + 10 * Ks.length + 80 * Q + 4 * capF n) [.ref m, .int (nI i)] [[(m, .inr (12, [.ref ls, .ref lb, .ref lk, .ref lp, .ref lr, .ref le, .ref lm, .ref lo, .int (nI th), .int z, .int (nI bo), .int (nI cm)]))], w1, w2, w3] (fun (rv_ : Option Value) (rL_ : List va_W) => ∃ (p : Nat) (vs : List Nat) (u4 : va_W), rv_ = some (.ref p) ∧ rL_ = [[(m, .inr (12, [.ref ls, .ref lb, .ref lk, .ref lp, .ref lr, .ref le, .ref lm, .ref lo, .int (nI th), .int z, .int (nI bo), .int (nI cm)]))], w1, w2, w3, u4] ∧ LhP g (BxE g) p vs (capF vs.length) u4 ∧ (∀ x, x ∈ vs ↔ helM Ks Es i r x) ∧ (vs.Nodup) ∧ (vs.length ≤ 2 * Ks.length + 51 + 16 * Q)) noX := by
  refine Ct.of "KeygroveModel" [some (.ref m), some (.int (nI i)), none, none, none, none, none, none, none, none, none] rfl (by decide) rfl (Nat.le_of_ble_eq_true rfl) rfl ?_
  intro κ B E tb
  refine g_new (q := 3) (kc2 := (120 + 4 * Ks.length + 32 * Q + capF n / 5) - 1) (ks2 := (330 + 10 * Ks.length + 80 * Q + 4 * capF n) - 3) (fs := [.int (nI 0), .null, .int (nI 0)]) B (ci := 21) in_J2 tyJ2_ok rfl dX3_heldBy_0 rfl q3055 q166 q81 (nwJ2) (by omega) (by omega) (fun n0 => ?_)
  refine (show Go g κ 3 [some (.ref m), some (.int (nI i)), none, none, none, none, none, none, none, none, none] [.ref n0] [[(m, .inr (12, [.ref ls, .ref lb, .ref lk, .ref lp, .ref lr, .ref le, .ref lm, .ref lo, .int (nI th), .int z, .int (nI bo), .int (nI cm)]))], w1, w2, w3, [(n0, .inr (21, [.int (nI 0), .null, .int (nI 0)]))]] ((120 + 4 * Ks.length + 32 * Q + capF n / 5) - 1) ((330 + 10 * Ks.length + 80 * Q + 4 * capF n) - 3) from ?_)
  refine g_dup (q := 4) B dX3_heldBy_3 rfl rfl ?_
  refine g_callI (q := 7) (is := [4]) (kc2 := (120 + 4 * Ks.length + 32 * Q + capF n / 5) - 1) (ks2 := (330 + 10 * Ks.length + 80 * Q + 4 * capF n) - 3) B [] (ct_J2_init g J (p := n0)  ) dX3_heldBy_4 rfl rfl q3056 q168 q81 q169 rfl rfl moJ2_init rfl rfl (by decide) (by decide) (Nat.le_of_ble_eq_true rfl) (by omega) (by omega) (fun _ _ hx => noX_x hx) (fun v4 L1 hp4 => ?_)
  obtain ⟨u0_4, rfl, rfl, hu0_4⟩ := hp4
  refine (show Go g κ 7 [some (.ref m), some (.int (nI i)), none, none, none, none, none, none, none, none, none] [.ref n0] [[(m, .inr (12, [.ref ls, .ref lb, .ref lk, .ref lp, .ref lr, .ref le, .ref lm, .ref lo, .int (nI th), .int z, .int (nI bo), .int (nI cm)]))], w1, w2, w3, u0_4] ((120 + 4 * Ks.length + 32 * Q + capF n / 5) - 1) ((330 + 10 * Ks.length + 80 * Q + 4 * capF n) - 3) from ?_)
  refine g_astore_n (q := 8) (lv2 := [some (.ref m), some (.int (nI i)), some (.ref n0), none, none, none, none, none, none, none, none]) B dX3_heldBy_7 rfl (Nat.le_of_ble_eq_true rfl) (rv_r _) rfl ?_
  have hr_1 : LhP g (BxE g) n0 ([]) (capF ([] : List Nat).length) u0_4 := (hu0_4.nilH)
  have hc00 : capF ([] : List Nat).length = 0 := rfl
  refine g_aload_n (q := 9) B dX3_heldBy_8 rfl rfl (rv_r _) ?_
  refine g_get (q := 12) B (ci := 12) (k := 0) (j := 3) in_X3 rfl dX3_heldBy_9 rfl rfl (Nat.le_of_ble_eq_true rfl) q3060 rfl rfl ?_
  refine g_iload_n (q := 13) B dX3_heldBy_12 rfl rfl ?_
  obtain ⟨md_2, hli_2, hln_2, hel_2⟩ := LoP.at (Sub.self hw2)
  obtain ⟨x13, hx13⟩ := get_ex (xs := mps) (i := i) (by have := get_lt2 (show Ps[i]? = some r from hr); have := hln_2.1; omega)
  have hE_3 := hel_2 _ _ _ hx13 (show Ps[i]? = some r from hr)
  refine g_callV (q := 16) (is := [2]) (kc2 := (120 + 4 * Ks.length + 32 * Q + capF n / 5) - 1) (ks2 := (330 + 10 * Ks.length + 80 * Q + 4 * capF n) - 3) B [.int (nI i)] (ct_J2_get_s g J (p := lp) (xs := mps) (md := md_2) (cap := pcap) (i := i) (x := x13) (W0 := w2)  (hli_2) (hx13)) dX3_heldBy_13 rfl (rc_in B (ci := 21) rfl (k := 2) rfl (LoP.hm hw2)) rfl q3231 q1095 q3667 q81 q1097 rfl rfl moJ2_get rfl rfl (by decide) (by decide) (Nat.le_of_ble_eq_true rfl) (by omega) (by omega) (fun _ _ hx => noX_x hx) (fun v13 L1 hp13 => ?_)
  obtain ⟨rfl, rfl⟩ := hp13
  refine (show Go g κ 16 [some (.ref m), some (.int (nI i)), some (.ref n0), none, none, none, none, none, none, none, none] [.ref x13] [[(m, .inr (12, [.ref ls, .ref lb, .ref lk, .ref lp, .ref lr, .ref le, .ref lm, .ref lo, .int (nI th), .int z, .int (nI bo), .int (nI cm)]))], w1, w3, u0_4, w2] ((120 + 4 * Ks.length + 32 * Q + capF n / 5) - 1) ((330 + 10 * Ks.length + 80 * Q + 4 * capF n) - 3) from ?_)
  refine g_castRS (ci := 13) (q := 19) B rfl (rc_in B (ci := 13) rfl (k := 4) rfl (Sub.hm (hE_3) fun _ z => MpP.hm z)) dX3_heldBy_16 rfl q3107 ?_
  refine g_astore_n (q := 20) (lv2 := [some (.ref m), some (.int (nI i)), some (.ref n0), some (.ref x13), none, none, none, none, none, none, none]) B dX3_heldBy_19 rfl (Nat.le_of_ble_eq_true rfl) (rv_r _) rfl ?_
  obtain ⟨nd_4, ch_4, ev_4, cv_4, fn_4, fc_4, hM_4, hfn_4, hoc_4, hcv_4, hc_4_0, hc_4_1, hc_4_2, hs_4_0, hs_4_1⟩ := MpP.at (hE_3)
  have hMB : MpB r := by assumption
  have hM1 := hMB.1
  refine g_aload_n (q := 21) B dX3_heldBy_20 rfl rfl (rv_r _) ?_
  refine g_get (q := 24) B (ci := 12) (k := 0) (j := 2) in_X3 rfl dX3_heldBy_21 rfl rfl (Nat.le_of_ble_eq_true rfl) q3059 rfl rfl ?_
  obtain ⟨md_5, hli_5, hln_5, hel_5⟩ := LoP.at (Sub.self hw1)
  refine g_callV (q := 27) (is := [1]) (kc2 := (120 + 4 * Ks.length + 32 * Q + capF n / 5) - 2) (ks2 := (330 + 10 * Ks.length + 80 * Q + 4 * capF n) - 7) B [] (ct_J2_iterator_s g J (p := lk) (xs := mks) (md := md_5) (cap := kcap) (W0 := w1)  (hli_5)) dX3_heldBy_24 rfl (rc_in B (ci := 21) rfl (k := 1) rfl (LoP.hm hw1)) rfl q3232 q805 q3668 q81 q807 rfl rfl moJ2_iterator rfl rfl (by decide) (by decide) (Nat.le_of_ble_eq_true rfl) (by omega) (by omega) (fun _ _ hx => noX_x hx) (fun v24 L1 hp24 => ?_)
  obtain ⟨it24, rfl, rfl⟩ := hp24
  refine (show Go g κ 27 [some (.ref m), some (.int (nI i)), some (.ref n0), some (.ref x13), none, none, none, none, none, none, none] [.ref it24] [[(m, .inr (12, [.ref ls, .ref lb, .ref lk, .ref lp, .ref lr, .ref le, .ref lm, .ref lo, .int (nI th), .int z, .int (nI bo), .int (nI cm)]))], w3, u0_4, w2, [(it24, .inr (22, [.int (nI 0), .int (-1), .int md_5, .ref lk]))], w1] ((120 + 4 * Ks.length + 32 * Q + capF n / 5) - 2) ((330 + 10 * Ks.length + 80 * Q + 4 * capF n) - 7) from ?_)
  refine g_astore (q := 29) (lv2 := [some (.ref m), some (.int (nI i)), some (.ref n0), some (.ref x13), some (.ref it24), none, none, none, none, none, none]) B dX3_heldBy_27 rfl (Nat.le_of_ble_eq_true rfl) (rv_r _) rfl ?_
  have lp29 : ∀ (n29 : Nat) (k : Nat) (lrt : Int32) (vs : List Nat) (l29_2 : va_W), LhP g (BxE g) n0 vs (capF vs.length) l29_2 → (k ≤ Ks.length) → (vs.Nodup) → (∀ x, x ∈ vs ↔ pkM Ks i k x) → (∀ x ∈ vs, x < n) → (vs.length ≤ 2 * k) → Ks.length - k = n29 → Go g κ 29 [some (.ref m), some (.int (nI i)), some (.ref n0), some (.ref x13), some (.ref it24), none, none, none, none, none, none] [] [[(m, .inr (12, [.ref ls, .ref lb, .ref lk, .ref lp, .ref lr, .ref le, .ref lm, .ref lo, .int (nI th), .int z, .int (nI bo), .int (nI cm)]))], w3, l29_2, w2, [(it24, .inr (22, [.int (nI k), .int lrt, .int md_5, .ref lk]))], w1] (4 * (Ks.length - k) + (118 + 32 * Q) + (capF n / 5 - capF vs.length / 5)) (10 * (Ks.length - k) + (319 + 80 * Q) + 4 * (capF n - capF vs.length)) := by
    intro n29
    induction n29 using Nat.strongRecOn with
    | _ n29 ih29 =>
    intro k lrt vs l29_2 hl29_2 hk hnd hm hvb hvl hmu29
    have hln := nodup_len n vs hnd hvb
    have hcn := capF_m hln
    refine g_aload (q := 31) B dX3_heldBy_29 rfl rfl (rv_r _) ?_
    refine g_callF (q := 36) (is := [4, 4]) (kc2 := 4 * (Ks.length - k) + (118 + 32 * Q) + (capF n / 5 - capF vs.length / 5)) (ks2 := 10 * (Ks.length - k) + (319 + 80 * Q) + 4 * (capF n - capF vs.length)) B [] (ct_J19_hasNext_s g J (p := lk) (xs := mks) (md := md_5) (cap := kcap) (it := it24) (c := k) (lr := lrt) (W1 := w1)  (hli_5) (by have := hln_5.1; omega)) dX3_heldBy_31 rfl (ci := 22) rfl (rc_at B (ci := 22) rfl (k := 4) rfl) q3234 q940 q942 q104 q944 q938 q937 q943 q941 q939 rfl rfl mojava_util_Iterator_hasNext___Z rfl rfl (by decide) (by decide) (Nat.le_of_ble_eq_true rfl) (by omega) (by omega) (fun _ _ hx => noX_x hx) (fun v31 L1 hp31 => ?_)
    obtain ⟨rfl, rfl⟩ := hp31
    refine (show Go g κ 36 [some (.ref m), some (.int (nI i)), some (.ref n0), some (.ref x13), some (.ref it24), none, none, none, none, none, none] [.int (nI (if ¬ k = mks.length then 1 else 0))] [[(m, .inr (12, [.ref ls, .ref lb, .ref lk, .ref lp, .ref lr, .ref le, .ref lm, .ref lo, .int (nI th), .int z, .int (nI bo), .int (nI cm)]))], w3, l29_2, w2, [(it24, .inr (22, [.int (nI k), .int lrt, .int md_5, .ref lk]))], w1] (4 * (Ks.length - k) + (118 + 32 * Q) + (capF n / 5 - capF vs.length / 5)) (10 * (Ks.length - k) + (319 + 80 * Q) + 4 * (capF n - capF vs.length)) from ?_)
    rw [hln_5.1]
    refine (show Go g κ 36 [some (.ref m), some (.int (nI i)), some (.ref n0), some (.ref x13), some (.ref it24), none, none, none, none, none, none] [.int (nI (if ¬ k = Ks.length then 1 else 0))] [[(m, .inr (12, [.ref ls, .ref lb, .ref lk, .ref lp, .ref lr, .ref le, .ref lm, .ref lo, .int (nI th), .int z, .int (nI bo), .int (nI cm)]))], w3, l29_2, w2, [(it24, .inr (22, [.int (nI k), .int lrt, .int md_5, .ref lk]))], w1] (4 * (Ks.length - k) + (118 + 32 * Q) + (capF n / 5 - capF vs.length / 5)) (10 * (Ks.length - k) + (319 + 80 * Q) + 4 * (capF n - capF vs.length)) from ?_)
    refine g_if_eq (tgt := 92) (q := 39) B dX3_heldBy_36 rfl (by decide) (bo_eq) (fun c36 => ?_) (fun c36 => ?_)
    · skip
      have hmp : ∀ x, x ∈ vs ↔ pkM Ks i Ks.length x := by rw [show Ks.length = k by omega]; exact hm
      refine g_pk [0, 0, 0, 0, 1] rfl rfl ?_
      refine (show Go g κ 92 [some (.ref m), some (.int (nI i)), some (.ref n0), some (.ref x13), some (.ref it24), none, none, none, none, none, none] [] [[(m, .inr (12, [.ref ls, .ref lb, .ref lk, .ref lp, .ref lr, .ref le, .ref lm, .ref lo, .int (nI th), .int z, .int (nI bo), .int (nI cm)]))], w3, l29_2, w2, w1] (4 * (Ks.length - k) + (118 + 32 * Q) + (capF n / 5 - capF vs.length / 5)) (10 * (Ks.length - k) + (319 + 80 * Q) + 4 * (capF n - capF vs.length)) from ?_)
      refine g_aload_n (q := 93) B dX3_heldBy_92 rfl rfl (rv_r _) ?_
      refine g_getNM (q := 96) B (ci := 13) (k := 3) (j := 0) in_X5 rfl dX3_heldBy_93 rfl rfl (hc_4_0) (Nat.le_of_ble_eq_true rfl) q3118 rfl rfl ?_
      refine g_iconst (v := -1) (q := 97) B dX3_heldBy_96 rfl (by decide) ?_
      refine g_icmp_ne (tgt := 102) (q := 100) B dX3_heldBy_97 rfl (by decide) (oI_nn ((fun n h => by have := hM_4.1 _ h; omega))) (fun c97 => ?_) (fun c97 => ?_)
      · skip
        obtain ⟨v97, ev97⟩ := Option.ne_none_iff_exists'.mp c97
        have hel := hep _ ev97
        obtain ⟨ep, hepe⟩ := get_ex (xs := Es) (i := v97) hel
        refine g_aload_n (q := 103) B dX3_heldBy_102 rfl rfl (rv_r _) ?_
        refine g_get (q := 106) B (ci := 12) (k := 0) (j := 5) in_X3 rfl dX3_heldBy_103 rfl rfl (Nat.le_of_ble_eq_true rfl) q3062 rfl rfl ?_
        refine g_aload_n (q := 107) B dX3_heldBy_106 rfl rfl (rv_r _) ?_
        refine g_getNM (q := 110) B (ci := 13) (k := 3) (j := 0) in_X5 rfl dX3_heldBy_107 rfl rfl (hc_4_0) (Nat.le_of_ble_eq_true rfl) q3118 rfl rfl ?_
        refine g_stk (y := .int (nI v97)) (by rw [ev97]; rfl) ?_
        obtain ⟨ps_6, md_6, hli_6, hln_6, hel_6⟩ := LhP.at (Sub.self hw3)
        obtain ⟨x110, hx110⟩ := get_ex (xs := ps_6) (i := v97) (by have := get_lt2 (show Es[v97]? = some ep from hepe); have := hln_6.1; omega)
        have hE_7 := hel_6 _ _ _ hx110 (show Es[v97]? = some ep from hepe)
        refine g_callV (q := 113) (is := [1]) (kc2 := 4 * (Ks.length - k) + (118 + 32 * Q) + (capF n / 5 - capF vs.length / 5)) (ks2 := 10 * (Ks.length - k) + (319 + 80 * Q) + 4 * (capF n - capF vs.length)) B [.int (nI v97)] (ct_J2_get_s g J (p := le) (xs := ps_6) (md := md_6) (cap := ecap) (i := v97) (x := x110) (W0 := w3)  (hli_6) (hx110)) dX3_heldBy_110 rfl (rc_in B (ci := 21) rfl (k := 1) rfl (LhP.hm hw3)) rfl q3231 q1095 q3667 q81 q1097 rfl rfl moJ2_get rfl rfl (by decide) (by decide) (Nat.le_of_ble_eq_true rfl) (by omega) (by omega) (fun _ _ hx => noX_x hx) (fun v110 L1 hp110 => ?_)
        obtain ⟨rfl, rfl⟩ := hp110
        refine (show Go g κ 113 [some (.ref m), some (.int (nI i)), some (.ref n0), some (.ref x13), some (.ref it24), none, none, none, none, none, none] [.ref x110] [[(m, .inr (12, [.ref ls, .ref lb, .ref lk, .ref lp, .ref lr, .ref le, .ref lm, .ref lo, .int (nI th), .int z, .int (nI bo), .int (nI cm)]))], l29_2, w2, w1, w3] (4 * (Ks.length - k) + (118 + 32 * Q) + (capF n / 5 - capF vs.length / 5)) (10 * (Ks.length - k) + (319 + 80 * Q) + 4 * (capF n - capF vs.length)) from ?_)
        refine g_castRS (ci := 16) (q := 116) B rfl (rc_in B (ci := 16) rfl (k := 4) rfl (Sub.hm (hE_7) fun _ z => EpP.hm z)) dX3_heldBy_113 rfl q3243 ?_
        have hEB := EpP.b2 (hE_7)
        have hEg := hEB.2.2.1
        have hEk := hEB.2.2.2.1
        refine g_astore (q := 118) (lv2 := [some (.ref m), some (.int (nI i)), some (.ref n0), some (.ref x13), some (.ref x110), none, none, none, none, none, none]) B dX3_heldBy_116 rfl (Nat.le_of_ble_eq_true rfl) (rv_r _) rfl ?_
        refine g_aload_n (q := 119) B dX3_heldBy_118 rfl rfl (rv_r _) ?_
        refine g_aload_n (q := 120) B dX3_heldBy_119 rfl rfl (rv_r _) ?_
        refine g_getNM (q := 123) B (ci := 13) (k := 2) (j := 2) in_X5 rfl dX3_heldBy_120 rfl rfl (hc_4_0) (Nat.le_of_ble_eq_true rfl) q3120 rfl rfl ?_
        have ho_123 : ∀ x, (some (mLs r)) = some x → x < n := fun x e => hbd x (Or.inr ⟨v97, ep, ev97, hepe, by cases e; exact Or.inl rfl⟩)
        have hd_123 : (putL vs (some (mLs r))).Nodup := nd_putL _ hnd
        have hb_123 : ∀ x ∈ (putL vs (some (mLs r))), x < n := fun x hx => ((mem_putL _ _ x).mp hx).elim (hvb x) (ho_123 x)
        have hl_123 := nodup_len n _ hd_123 hb_123
        have hl0_123 := putL_len vs (some (mLs r))
        have hc1_123 := capF_m hl_123
        have hc2_123 := capF_m hl0_123.1
        refine g_callS (q := 126) (is := [1]) (kc2 := (116 + 32 * Q) + (capF n / 5 - capF (putL vs (some (mLs r))).length / 5)) (ks2 := (314 + 80 * Q) + 4 * (capF n - capF (putL vs (some (mLs r))).length)) B [.ref n0, .int (nI (mLs r))] (ct_X3_puts g J (p := n0) (vs := vs) (o := (some (mLs r))) hl29_2 (fun x e => by have := ho_123 x e; omega) (fun x hx => by have := hvb x hx; omega) (by omega)) dX3_heldBy_123 rfl q3237 q3238 q85 q3239 rfl rfl moX3_puts rfl rfl (by decide) (by decide) (Nat.le_of_ble_eq_true rfl) (by omega) (by omega) (fun _ _ hx => noX_x hx) (fun v123 L1 hp123 => ?_)
        obtain ⟨u0_123, rfl, rfl, hu0_123⟩ := hp123
        refine (show Go g κ 126 [some (.ref m), some (.int (nI i)), some (.ref n0), some (.ref x13), some (.ref x110), none, none, none, none, none, none] [] [[(m, .inr (12, [.ref ls, .ref lb, .ref lk, .ref lp, .ref lr, .ref le, .ref lm, .ref lo, .int (nI th), .int z, .int (nI bo), .int (nI cm)]))], w2, w1, w3, u0_123] ((116 + 32 * Q) + (capF n / 5 - capF (putL vs (some (mLs r))).length / 5)) ((314 + 80 * Q) + 4 * (capF n - capF (putL vs (some (mLs r))).length)) from ?_)
        refine g_aload_n (q := 127) B dX3_heldBy_126 rfl rfl (rv_r _) ?_
        refine g_aload_n (q := 128) B dX3_heldBy_127 rfl rfl (rv_r _) ?_
        refine g_getNM (q := 131) B (ci := 13) (k := 1) (j := 3) in_X5 rfl dX3_heldBy_128 rfl rfl (hc_4_0) (Nat.le_of_ble_eq_true rfl) q3122 rfl rfl ?_
        have ho_131 : ∀ x, (mRn r) = some x → x < n := fun x e => hbd x (Or.inr ⟨v97, ep, ev97, hepe, Or.inr (Or.inl e)⟩)
        have hd_131 : (putL (putL vs (some (mLs r))) (mRn r)).Nodup := nd_putL _ hd_123
        have hb_131 : ∀ x ∈ (putL (putL vs (some (mLs r))) (mRn r)), x < n := fun x hx => ((mem_putL _ _ x).mp hx).elim (hb_123 x) (ho_131 x)
        have hl_131 := nodup_len n _ hd_131 hb_131
        have hl0_131 := putL_len (putL vs (some (mLs r))) (mRn r)
        have hc1_131 := capF_m hl_131
        have hc2_131 := capF_m hl0_131.1
        refine g_callS (q := 134) (is := [4]) (kc2 := (114 + 32 * Q) + (capF n / 5 - capF (putL (putL vs (some (mLs r))) (mRn r)).length / 5)) (ks2 := (309 + 80 * Q) + 4 * (capF n - capF (putL (putL vs (some (mLs r))) (mRn r)).length)) B [.ref n0, .int (oI (mRn r))] (ct_X3_puts g J (p := n0) (vs := (putL vs (some (mLs r)))) (o := (mRn r)) hu0_123 (fun x e => by have := ho_131 x e; omega) (fun x hx => by have := hb_123 x hx; omega) (by omega)) dX3_heldBy_131 rfl q3237 q3238 q85 q3239 rfl rfl moX3_puts rfl rfl (by decide) (by decide) (Nat.le_of_ble_eq_true rfl) (by omega) (by omega) (fun _ _ hx => noX_x hx) (fun v131 L1 hp131 => ?_)
        obtain ⟨u0_131, rfl, rfl, hu0_131⟩ := hp131
        refine (show Go g κ 134 [some (.ref m), some (.int (nI i)), some (.ref n0), some (.ref x13), some (.ref x110), none, none, none, none, none, none] [] [[(m, .inr (12, [.ref ls, .ref lb, .ref lk, .ref lp, .ref lr, .ref le, .ref lm, .ref lo, .int (nI th), .int z, .int (nI bo), .int (nI cm)]))], w2, w1, w3, u0_131] ((114 + 32 * Q) + (capF n / 5 - capF (putL (putL vs (some (mLs r))) (mRn r)).length / 5)) ((309 + 80 * Q) + 4 * (capF n - capF (putL (putL vs (some (mLs r))) (mRn r)).length)) from ?_)
        refine g_aload_n (q := 135) B dX3_heldBy_134 rfl rfl (rv_r _) ?_
        refine g_getNM (q := 138) B (ci := 13) (k := 1) (j := 4) in_X5 rfl dX3_heldBy_135 rfl rfl (hc_4_0) (Nat.le_of_ble_eq_true rfl) q3124 rfl rfl ?_
        refine g_astore (q := 140) (lv2 := [some (.ref m), some (.int (nI i)), some (.ref n0), some (.ref x13), some (.ref x110), some (.ref nd_4), none, none, none, none, none]) B dX3_heldBy_138 rfl (Nat.le_of_ble_eq_true rfl) (rv_r _) rfl ?_
        refine g_aload (q := 142) B dX3_heldBy_140 rfl rfl (rv_r _) ?_
        refine g_alenM (v := nI 31) (q := 143) B (k := 1) (t := 0) dX3_heldBy_142 rfl rfl (hc_4_1) rfl rfl ?_
        refine g_istore (q := 145) (lv2 := [some (.ref m), some (.int (nI i)), some (.ref n0), some (.ref x13), some (.ref x110), some (.ref nd_4), some (.int (nI 31)), none, none, none, none]) B dX3_heldBy_143 rfl (Nat.le_of_ble_eq_true rfl) rfl ?_
        have hm0 : ∀ x, x ∈ (putL (putL vs (some (mLs r))) (mRn r)) ↔ (pkM Ks i Ks.length x ∨ x = mLs r ∨ mRn r = some x) := fun x => by rw [mem_putL, mem_putL, hmp x, or_assoc, Option.some.injEq, eq_comm (a := mLs r)]
        have hnd0 := hd_131
        have hvb0 := hb_131
        refine g_iconst (v := nI 0) (q := 146) B dX3_heldBy_145 rfl (by decide) ?_
        refine g_istore (q := 148) (lv2 := [some (.ref m), some (.int (nI i)), some (.ref n0), some (.ref x13), some (.ref x110), some (.ref nd_4), some (.int (nI 31)), some (.int (nI 0)), none, none, none]) B dX3_heldBy_146 rfl (Nat.le_of_ble_eq_true rfl) rfl ?_
        have lp148 : ∀ (n148 : Nat) (k : Nat) (vs : List Nat) (l148_4 : va_W), LhP g (BxE g) n0 vs (capF vs.length) l148_4 → (k ≤ 31) → (vs.Nodup) → (∀ x, x ∈ vs ↔ (pkM Ks i Ks.length x ∨ x = mLs r ∨ mRn r = some x) ∨ upT (mNd r) (fun n x => x = n) k x) → (∀ x ∈ vs, x < n) → (vs.length ≤ 2 * Ks.length + 2 + k) → 31 - k = n148 → Go g κ 148 [some (.ref m), some (.int (nI i)), some (.ref n0), some (.ref x13), some (.ref x110), some (.ref nd_4), some (.int (nI 31)), some (.int (nI k)), none, none, none] [] [[(m, .inr (12, [.ref ls, .ref lb, .ref lk, .ref lp, .ref lr, .ref le, .ref lm, .ref lo, .int (nI th), .int z, .int (nI bo), .int (nI cm)]))], w2, w1, w3, l148_4] (2 * (31 - k) + (52 + 32 * Q) + (capF n / 5 - capF vs.length / 5)) (5 * (31 - k) + (154 + 80 * Q) + 4 * (capF n - capF vs.length)) := by
          intro n148
          induction n148 using Nat.strongRecOn with
          | _ n148 ih148 =>
          intro k vs l148_4 hl148_4 hk hnd hm hvb hvl hmu148
          have hln := nodup_len n vs hnd hvb
          have hcn := capF_m hln
          refine g_iload (q := 150) B dX3_heldBy_148 rfl rfl ?_
          refine g_iload (q := 152) B dX3_heldBy_150 rfl rfl ?_
          refine g_icmp_ge (tgt := 174) (q := 155) B dX3_heldBy_152 rfl (by decide) (nI_leI (by omega) (by omega)) (fun c152 => ?_) (fun c152 => ?_)
          · skip
            have hm1 : ∀ x, x ∈ vs ↔ (pkM Ks i Ks.length x ∨ x = mLs r ∨ mRn r = some x) ∨ upT (mNd r) (fun n x => x = n) 31 x := by rw [show 31 = k by omega]; exact hm
            refine g_aload_n (q := 175) B dX3_heldBy_174 rfl rfl (rv_r _) ?_
            refine g_aload (q := 177) B dX3_heldBy_175 rfl rfl (rv_r _) ?_
            obtain ⟨ap_8, an_8, al_8, ac_8, aw_8, am_8, ak_8, fp_8, fn_8, fl_8, fc_8, fw_8, fm_8, fk_8, hE_8, hfp_8, hfn_8, hfl_8, hfc_8, hfw_8, hfm_8, hfk_8, hc_8_0, hc_8_1, hc_8_2, hc_8_3, hc_8_4, hc_8_5, hc_8_6, hc_8_7⟩ := EpP.at (hE_7)
            refine g_getNM (q := 180) B (ci := 16) (k := 3) (j := 2) in_X13 rfl dX3_heldBy_177 rfl rfl (hc_8_0) (Nat.le_of_ble_eq_true rfl) q3258 rfl rfl ?_
            have ho_180 : ∀ x, (some (eGo ep)) = some x → x < n := fun x e => hbd x (Or.inr ⟨v97, ep, ev97, hepe, by cases e; exact Or.inr (Or.inr (Or.inr (Or.inl rfl)))⟩)
            have hd_180 : (putL vs (some (eGo ep))).Nodup := nd_putL _ hnd
            have hb_180 : ∀ x ∈ (putL vs (some (eGo ep))), x < n := fun x hx => ((mem_putL _ _ x).mp hx).elim (hvb x) (ho_180 x)
            have hl_180 := nodup_len n _ hd_180 hb_180
            have hl0_180 := putL_len vs (some (eGo ep))
            have hc1_180 := capF_m hl_180
            have hc2_180 := capF_m hl0_180.1
            refine g_callS (q := 183) (is := [4]) (kc2 := (50 + 32 * Q) + (capF n / 5 - capF (putL vs (some (eGo ep))).length / 5)) (ks2 := (149 + 80 * Q) + 4 * (capF n - capF (putL vs (some (eGo ep))).length)) B [.ref n0, .int (nI (eGo ep))] (ct_X3_puts g J (p := n0) (vs := vs) (o := (some (eGo ep))) hl148_4 (fun x e => by have := ho_180 x e; omega) (fun x hx => by have := hvb x hx; omega) (by omega)) dX3_heldBy_180 rfl q3237 q3238 q85 q3239 rfl rfl moX3_puts rfl rfl (by decide) (by decide) (Nat.le_of_ble_eq_true rfl) (by omega) (by omega) (fun _ _ hx => noX_x hx) (fun v180 L1 hp180 => ?_)
            obtain ⟨u0_180, rfl, rfl, hu0_180⟩ := hp180
            refine (show Go g κ 183 [some (.ref m), some (.int (nI i)), some (.ref n0), some (.ref x13), some (.ref x110), some (.ref nd_4), some (.int (nI 31)), some (.int (nI k)), none, none, none] [] [[(m, .inr (12, [.ref ls, .ref lb, .ref lk, .ref lp, .ref lr, .ref le, .ref lm, .ref lo, .int (nI th), .int z, .int (nI bo), .int (nI cm)]))], w2, w1, w3, u0_180] ((50 + 32 * Q) + (capF n / 5 - capF (putL vs (some (eGo ep))).length / 5)) ((149 + 80 * Q) + 4 * (capF n - capF (putL vs (some (eGo ep))).length)) from ?_)
            refine g_aload_n (q := 184) B dX3_heldBy_183 rfl rfl (rv_r _) ?_
            refine g_aload (q := 186) B dX3_heldBy_184 rfl rfl (rv_r _) ?_
            refine g_getNM (q := 189) B (ci := 16) (k := 3) (j := 3) in_X13 rfl dX3_heldBy_186 rfl rfl (hc_8_0) (Nat.le_of_ble_eq_true rfl) q3259 rfl rfl ?_
            have ho_189 : ∀ x, (some (eKy ep)) = some x → x < n := fun x e => hbd x (Or.inr ⟨v97, ep, ev97, hepe, by cases e; exact Or.inr (Or.inr (Or.inr (Or.inr (Or.inl rfl))))⟩)
            have hd_189 : (putL (putL vs (some (eGo ep))) (some (eKy ep))).Nodup := nd_putL _ hd_180
            have hb_189 : ∀ x ∈ (putL (putL vs (some (eGo ep))) (some (eKy ep))), x < n := fun x hx => ((mem_putL _ _ x).mp hx).elim (hb_180 x) (ho_189 x)
            have hl_189 := nodup_len n _ hd_189 hb_189
            have hl0_189 := putL_len (putL vs (some (eGo ep))) (some (eKy ep))
            have hc1_189 := capF_m hl_189
            have hc2_189 := capF_m hl0_189.1
            refine g_callS (q := 192) (is := [4]) (kc2 := (48 + 32 * Q) + (capF n / 5 - capF (putL (putL vs (some (eGo ep))) (some (eKy ep))).length / 5)) (ks2 := (144 + 80 * Q) + 4 * (capF n - capF (putL (putL vs (some (eGo ep))) (some (eKy ep))).length)) B [.ref n0, .int (nI (eKy ep))] (ct_X3_puts g J (p := n0) (vs := (putL vs (some (eGo ep)))) (o := (some (eKy ep))) hu0_180 (fun x e => by have := ho_189 x e; omega) (fun x hx => by have := hb_180 x hx; omega) (by omega)) dX3_heldBy_189 rfl q3237 q3238 q85 q3239 rfl rfl moX3_puts rfl rfl (by decide) (by decide) (Nat.le_of_ble_eq_true rfl) (by omega) (by omega) (fun _ _ hx => noX_x hx) (fun v189 L1 hp189 => ?_)
            obtain ⟨u0_189, rfl, rfl, hu0_189⟩ := hp189
            refine (show Go g κ 192 [some (.ref m), some (.int (nI i)), some (.ref n0), some (.ref x13), some (.ref x110), some (.ref nd_4), some (.int (nI 31)), some (.int (nI k)), none, none, none] [] [[(m, .inr (12, [.ref ls, .ref lb, .ref lk, .ref lp, .ref lr, .ref le, .ref lm, .ref lo, .int (nI th), .int z, .int (nI bo), .int (nI cm)]))], w2, w1, w3, u0_189] ((48 + 32 * Q) + (capF n / 5 - capF (putL (putL vs (some (eGo ep))) (some (eKy ep))).length / 5)) ((144 + 80 * Q) + 4 * (capF n - capF (putL (putL vs (some (eGo ep))) (some (eKy ep))).length)) from ?_)
            refine g_aload_n (q := 193) B dX3_heldBy_192 rfl rfl (rv_r _) ?_
            refine g_getNM (q := 196) B (ci := 13) (k := 1) (j := 5) in_X5 rfl dX3_heldBy_193 rfl rfl (hc_4_0) (Nat.le_of_ble_eq_true rfl) q3126 rfl rfl ?_
            refine g_astore (q := 198) (lv2 := [some (.ref m), some (.int (nI i)), some (.ref n0), some (.ref x13), some (.ref x110), some (.ref ch_4), some (.int (nI 31)), some (.int (nI k)), none, none, none]) B dX3_heldBy_196 rfl (Nat.le_of_ble_eq_true rfl) (rv_r _) rfl ?_
            refine g_aload (q := 200) B dX3_heldBy_198 rfl rfl (rv_r _) ?_
            refine g_alenM (v := nI 16) (q := 201) B (k := 1) (t := 5) dX3_heldBy_200 rfl rfl (hc_4_2) rfl rfl ?_
            refine g_istore (q := 203) (lv2 := [some (.ref m), some (.int (nI i)), some (.ref n0), some (.ref x13), some (.ref x110), some (.ref ch_4), some (.int (nI 16)), some (.int (nI k)), none, none, none]) B dX3_heldBy_201 rfl (Nat.le_of_ble_eq_true rfl) rfl ?_
            have hm2 : ∀ x, x ∈ (putL (putL vs (some (eGo ep))) (some (eKy ep))) ↔ (((pkM Ks i Ks.length x ∨ x = mLs r ∨ mRn r = some x) ∨ upT (mNd r) (fun n x => x = n) 31 x) ∨ x = eGo ep) ∨ x = eKy ep := fun x => by rw [mem_putL, mem_putL, hm1 x, Option.some.injEq, Option.some.injEq, eq_comm (a := eGo ep), eq_comm (a := eKy ep)]
            have hnd2 := hd_189
            have hvb2 := hb_189
            refine g_iconst (v := nI 0) (q := 204) B dX3_heldBy_203 rfl (by decide) ?_
            refine g_istore (q := 206) (lv2 := [some (.ref m), some (.int (nI i)), some (.ref n0), some (.ref x13), some (.ref x110), some (.ref ch_4), some (.int (nI 16)), some (.int (nI 0)), none, none, none]) B dX3_heldBy_204 rfl (Nat.le_of_ble_eq_true rfl) rfl ?_
            have lp206 : ∀ (n206 : Nat) (k : Nat) (vs : List Nat) (l206_4 : va_W), LhP g (BxE g) n0 vs (capF vs.length) l206_4 → (k ≤ 16) → (vs.Nodup) → (∀ x, x ∈ vs ↔ ((((pkM Ks i Ks.length x ∨ x = mLs r ∨ mRn r = some x) ∨ upT (mNd r) (fun n x => x = n) 31 x) ∨ x = eGo ep) ∨ x = eKy ep) ∨ upT (mCh r) mcH k x) → (∀ x ∈ vs, x < n) → (vs.length ≤ 2 * Ks.length + 35 + (1 + Q) * k) → 16 - k = n206 → Go g κ 206 [some (.ref m), some (.int (nI i)), some (.ref n0), some (.ref x13), some (.ref x110), some (.ref ch_4), some (.int (nI 16)), some (.int (nI k)), none, none, none] [] [[(m, .inr (12, [.ref ls, .ref lb, .ref lk, .ref lp, .ref lr, .ref le, .ref lm, .ref lo, .int (nI th), .int z, .int (nI bo), .int (nI cm)]))], w2, w1, w3, l206_4] ((3 + 2 * Q) * (16 - k) + (capF n / 5 - capF vs.length / 5)) ((9 + 5 * Q) * (16 - k) + 4 * (capF n - capF vs.length)) := by
              intro n206
              induction n206 using Nat.strongRecOn with
              | _ n206 ih206 =>
              intro k vs l206_4 hl206_4 hk hnd hm hvb hvl hmu206
              have hln := nodup_len n vs hnd hvb
              have hcn := capF_m hln
              have hmy1 := Nat.mul_le_mul_left (3 + 2 * Q) (show 16 - (k + 1) ≤ 16 - k by omega)
              have hmy2 := Nat.mul_le_mul_left (9 + 5 * Q) (show 16 - (k + 1) ≤ 16 - k by omega)
              refine g_iload (q := 208) B dX3_heldBy_206 rfl rfl ?_
              refine g_iload (q := 210) B dX3_heldBy_208 rfl rfl ?_
              refine g_icmp_ge (tgt := 287) (q := 213) B dX3_heldBy_210 rfl (by decide) (nI_leI (by omega) (by omega)) (fun c210 => ?_) (fun c210 => ?_)
              · skip
                refine g_aload_n (q := 288) B dX3_heldBy_287 rfl rfl (rv_r _) ?_
                refine g_pk [0, 1, 0, 0, 0] rfl rfl ?_
                refine (show Go g κ 288 [some (.ref m), some (.int (nI i)), some (.ref n0), some (.ref x13), some (.ref x110), some (.ref ch_4), some (.int (nI 16)), some (.int (nI k)), none, none, none] [.ref n0] [[(m, .inr (12, [.ref ls, .ref lb, .ref lk, .ref lp, .ref lr, .ref le, .ref lm, .ref lo, .int (nI th), .int z, .int (nI bo), .int (nI cm)]))], w1, w2, w3, l206_4] ((3 + 2 * Q) * (16 - k) + (capF n / 5 - capF vs.length / 5)) ((9 + 5 * Q) * (16 - k) + 4 * (capF n - capF vs.length)) from ?_)
                exact g_aret B E dX3_heldBy_288 (by first | exact Or.inl ⟨_, rfl⟩ | exact Or.inr ⟨_, rfl⟩) (rv_r _) (⟨n0, vs, l206_4, rfl, rfl, hl206_4, (fun x => (hm x).trans (hel_e ev97 hepe (by omega))), hnd, by have e : k = 16 := (by omega); rw [e] at hvl; omega⟩)
              · skip
                refine g_aload (q := 215) B dX3_heldBy_213 rfl rfl (rv_r _) ?_
                refine g_iload (q := 217) B dX3_heldBy_215 rfl rfl ?_
                refine g_aldM (r := fc_4 k) (q := 218) B (k := 1) (t := 5) dX3_heldBy_217 rfl rfl (hc_4_2) rfl (vp_in_nI (by omega) (by omega)) (by rw [nI_clamp (by omega)]) ?_
                refine g_astore (q := 220) (lv2 := [some (.ref m), some (.int (nI i)), some (.ref n0), some (.ref x13), some (.ref x110), some (.ref ch_4), some (.int (nI 16)), some (.int (nI k)), some (va_rf (fc_4 k)), none, none]) B dX3_heldBy_218 rfl (Nat.le_of_ble_eq_true rfl) (rv_o _) rfl ?_
                refine g_aload (q := 222) B dX3_heldBy_220 rfl rfl (rv_o _) ?_
                refine g_ifnonnull_o (tgt := 228) (q := 225) B dX3_heldBy_222 rfl (by decide) (fun fc_4k_a222 c222 => ?_) (fun c222 => ?_)
                · skip
                  rw [c222]
                  refine (show Go g κ 228 [some (.ref m), some (.int (nI i)), some (.ref n0), some (.ref x13), some (.ref x110), some (.ref ch_4), some (.int (nI 16)), some (.int (nI k)), some (.ref fc_4k_a222), none, none] [] [[(m, .inr (12, [.ref ls, .ref lb, .ref lk, .ref lp, .ref lr, .ref le, .ref lm, .ref lo, .int (nI th), .int z, .int (nI bo), .int (nI cm)]))], w2, w1, w3, l206_4] ((3 + 2 * Q) * (16 - k) + (capF n / 5 - capF vs.length / 5)) ((9 + 5 * Q) * (16 - k) + 4 * (capF n - capF vs.length)) from ?_)
                  obtain ⟨rc, hrc, hsc⟩ := BgM.atS (hs_4_0) hoc_4 c222
                  have hcB := (hMB.2.2.2.2.2.1 _ _ hrc).2
                  have hqc := hq _ _ hrc
                  have hml2 : (rc.2.2.map (·.2)).length = rc.2.2.length := by simp
                  obtain ⟨hmx1, hmx2⟩ := mul_q (Q := Q) (k := k) (by omega)
                  have hmx3 : (3 + 2 * Q) * (16 - (k + 1)) = (3 + 2 * Q) * (15 - k) := by rw [show 16 - (k + 1) = 15 - k by omega]
                  have hmx4 : (9 + 5 * Q) * (16 - (k + 1)) = (9 + 5 * Q) * (15 - k) := by rw [show 16 - (k + 1) = 15 - k by omega]
                  refine g_aload_n (q := 229) B dX3_heldBy_228 rfl rfl (rv_r _) ?_
                  refine g_aload (q := 231) B dX3_heldBy_229 rfl rfl (rv_r _) ?_
                  obtain ⟨pl_9, ky_9, cp_9, ck_9, hC_9, hcc_9, hc_9_0, hs_9_0, hs_9_1⟩ := McP.at (hsc)
                  refine g_getNM (q := 234) B (ci := 17) (k := 1) (j := 0) in_X14 rfl dX3_heldBy_231 rfl rfl (hc_9_0) (Nat.le_of_ble_eq_true rfl) q3319 rfl rfl ?_
                  have ho_234 : ∀ x, (some rc.1) = some x → x < n := fun x e => hbd x (Or.inr ⟨v97, ep, ev97, hepe, Or.inr (Or.inr (Or.inr (Or.inr (Or.inr ⟨k, rc, by omega, hrc, by cases e; exact Or.inl rfl⟩))))⟩)
                  have hd_234 : (putL vs (some rc.1)).Nodup := nd_putL _ hnd
                  have hb_234 : ∀ x ∈ (putL vs (some rc.1)), x < n := fun x hx => ((mem_putL _ _ x).mp hx).elim (hvb x) (ho_234 x)
                  have hl_234 := nodup_len n _ hd_234 hb_234
                  have hl0_234 := putL_len vs (some rc.1)
                  have hc1_234 := capF_m hl_234
                  have hc2_234 := capF_m hl0_234.1
                  refine g_callS (q := 237) (is := [4]) (kc2 := (1 + 2 * Q) + (3 + 2 * Q) * (15 - k) + (capF n / 5 - capF (putL vs (some rc.1)).length / 5)) (ks2 := (4 + 5 * Q) + (9 + 5 * Q) * (15 - k) + 4 * (capF n - capF (putL vs (some rc.1)).length)) B [.ref n0, .int (nI rc.1)] (ct_X3_puts g J (p := n0) (vs := vs) (o := (some rc.1)) hl206_4 (fun x e => by have := ho_234 x e; omega) (fun x hx => by have := hvb x hx; omega) (by omega)) dX3_heldBy_234 rfl q3237 q3238 q85 q3239 rfl rfl moX3_puts rfl rfl (by decide) (by decide) (Nat.le_of_ble_eq_true rfl) (by omega) (by omega) (fun _ _ hx => noX_x hx) (fun v234 L1 hp234 => ?_)
                  obtain ⟨u0_234, rfl, rfl, hu0_234⟩ := hp234
                  refine (show Go g κ 237 [some (.ref m), some (.int (nI i)), some (.ref n0), some (.ref x13), some (.ref x110), some (.ref ch_4), some (.int (nI 16)), some (.int (nI k)), some (.ref fc_4k_a222), none, none] [] [[(m, .inr (12, [.ref ls, .ref lb, .ref lk, .ref lp, .ref lr, .ref le, .ref lm, .ref lo, .int (nI th), .int z, .int (nI bo), .int (nI cm)]))], w2, w1, w3, u0_234] ((1 + 2 * Q) + (3 + 2 * Q) * (15 - k) + (capF n / 5 - capF (putL vs (some rc.1)).length / 5)) ((4 + 5 * Q) + (9 + 5 * Q) * (15 - k) + 4 * (capF n - capF (putL vs (some rc.1)).length)) from ?_)
                  refine g_aload (q := 239) B dX3_heldBy_237 rfl rfl (rv_r _) ?_
                  refine g_getNM (q := 242) B (ci := 17) (k := 1) (j := 3) in_X14 rfl dX3_heldBy_239 rfl rfl (hc_9_0) (Nat.le_of_ble_eq_true rfl) q3324 rfl rfl ?_
                  have hm3 : ∀ x, x ∈ (putL vs (some rc.1)) ↔ (((((pkM Ks i Ks.length x ∨ x = mLs r ∨ mRn r = some x) ∨ upT (mNd r) (fun n x => x = n) 31 x) ∨ x = eGo ep) ∨ x = eKy ep) ∨ upT (mCh r) mcH k x) ∨ x = rc.1 := fun x => by rw [mem_putL, hm x, Option.some.injEq, eq_comm (a := rc.1)]
                  have hnd3 := hd_234
                  have hvb3 := hb_234
                  obtain ⟨ps_10, md_10, hli_10, hln_10, hel_10⟩ := LhP.at (hs_9_1)
                  refine g_callV (q := 245) (is := [1]) (kc2 := ((1 + 2 * Q) + (3 + 2 * Q) * (15 - k) + (capF n / 5 - capF (putL vs (some rc.1)).length / 5)) - 1) (ks2 := ((4 + 5 * Q) + (9 + 5 * Q) * (15 - k) + 4 * (capF n - capF (putL vs (some rc.1)).length)) - 4) B [] (ct_J2_iterator_s g J (p := ky_9) (xs := ps_10) (md := md_10) (cap := ck_9) (W0 := w2)  (hli_10)) dX3_heldBy_242 rfl (rc_in B (ci := 21) rfl (k := 1) rfl (Sub.hm (hs_9_1) fun _ z => LhP.hm z)) rfl q3232 q805 q3668 q81 q807 rfl rfl moJ2_iterator rfl rfl (by decide) (by decide) (Nat.le_of_ble_eq_true rfl) (by omega) (by omega) (fun _ _ hx => noX_x hx) (fun v242 L1 hp242 => ?_)
                  obtain ⟨it242, rfl, rfl⟩ := hp242
                  refine (show Go g κ 245 [some (.ref m), some (.int (nI i)), some (.ref n0), some (.ref x13), some (.ref x110), some (.ref ch_4), some (.int (nI 16)), some (.int (nI k)), some (.ref fc_4k_a222), none, none] [.ref it242] [[(m, .inr (12, [.ref ls, .ref lb, .ref lk, .ref lp, .ref lr, .ref le, .ref lm, .ref lo, .int (nI th), .int z, .int (nI bo), .int (nI cm)]))], w1, w3, u0_234, [(it242, .inr (22, [.int (nI 0), .int (-1), .int md_10, .ref ky_9]))], w2] (((1 + 2 * Q) + (3 + 2 * Q) * (15 - k) + (capF n / 5 - capF (putL vs (some rc.1)).length / 5)) - 1) (((4 + 5 * Q) + (9 + 5 * Q) * (15 - k) + 4 * (capF n - capF (putL vs (some rc.1)).length)) - 4) from ?_)
                  refine g_astore (q := 247) (lv2 := [some (.ref m), some (.int (nI i)), some (.ref n0), some (.ref x13), some (.ref x110), some (.ref ch_4), some (.int (nI 16)), some (.int (nI k)), some (.ref fc_4k_a222), some (.ref it242), none]) B dX3_heldBy_245 rfl (Nat.le_of_ble_eq_true rfl) (rv_r _) rfl ?_
                  have lp247 : ∀ (n247 : Nat) (j : Nat) (lr2 : Int32) (us : List Nat) (l247_3 : va_W), LhP g (BxE g) n0 us (capF us.length) l247_3 → (j ≤ (rc.2.2.map (·.2)).length) → (us.Nodup) → (∀ x, x ∈ us ↔ ((((((pkM Ks i Ks.length x ∨ x = mLs r ∨ mRn r = some x) ∨ upT (mNd r) (fun n x => x = n) 31 x) ∨ x = eGo ep) ∨ x = eKy ep) ∨ upT (mCh r) mcH k x) ∨ x = rc.1) ∨ x ∈ (rc.2.2.map (·.2)).take j) → (∀ x ∈ us, x < n) → (us.length ≤ 2 * Ks.length + 35 + (1 + Q) * k + 1 + j) → (rc.2.2.map (·.2)).length - j = n247 → Go g κ 247 [some (.ref m), some (.int (nI i)), some (.ref n0), some (.ref x13), some (.ref x110), some (.ref ch_4), some (.int (nI 16)), some (.int (nI k)), some (.ref fc_4k_a222), some (.ref it242), none] [] [[(m, .inr (12, [.ref ls, .ref lb, .ref lk, .ref lp, .ref lr, .ref le, .ref lm, .ref lo, .int (nI th), .int z, .int (nI bo), .int (nI cm)]))], w1, w3, l247_3, [(it242, .inr (22, [.int (nI j), .int lr2, .int md_10, .ref ky_9]))], w2] (2 * (Q - j) + (3 + 2 * Q) * (15 - k) + (capF n / 5 - capF us.length / 5)) (5 * (Q - j) + (9 + 5 * Q) * (15 - k) + 4 * (capF n - capF us.length)) := by
                    intro n247
                    induction n247 using Nat.strongRecOn with
                    | _ n247 ih247 =>
                    intro j lr2 us l247_3 hl247_3 hj hnu hmu hub hul hmu247
                    have hlnu := nodup_len n us hnu hub
                    have hcnu := capF_m hlnu
                    refine g_aload (q := 249) B dX3_heldBy_247 rfl rfl (rv_r _) ?_
                    refine g_callF (q := 254) (is := [4, 4]) (kc2 := 2 * (Q - j) + (3 + 2 * Q) * (15 - k) + (capF n / 5 - capF us.length / 5)) (ks2 := 5 * (Q - j) + (9 + 5 * Q) * (15 - k) + 4 * (capF n - capF us.length)) B [] (ct_J19_hasNext_s g J (p := ky_9) (xs := ps_10) (md := md_10) (cap := ck_9) (it := it242) (c := j) (lr := lr2) (W1 := w2)  (hli_10) (by have := hln_10.1; omega)) dX3_heldBy_249 rfl (ci := 22) rfl (rc_at B (ci := 22) rfl (k := 4) rfl) q3234 q940 q942 q104 q944 q938 q937 q943 q941 q939 rfl rfl mojava_util_Iterator_hasNext___Z rfl rfl (by decide) (by decide) (Nat.le_of_ble_eq_true rfl) (by omega) (by omega) (fun _ _ hx => noX_x hx) (fun v249 L1 hp249 => ?_)
                    obtain ⟨rfl, rfl⟩ := hp249
                    refine (show Go g κ 254 [some (.ref m), some (.int (nI i)), some (.ref n0), some (.ref x13), some (.ref x110), some (.ref ch_4), some (.int (nI 16)), some (.int (nI k)), some (.ref fc_4k_a222), some (.ref it242), none] [.int (nI (if ¬ j = ps_10.length then 1 else 0))] [[(m, .inr (12, [.ref ls, .ref lb, .ref lk, .ref lp, .ref lr, .ref le, .ref lm, .ref lo, .int (nI th), .int z, .int (nI bo), .int (nI cm)]))], w1, w3, l247_3, [(it242, .inr (22, [.int (nI j), .int lr2, .int md_10, .ref ky_9]))], w2] (2 * (Q - j) + (3 + 2 * Q) * (15 - k) + (capF n / 5 - capF us.length / 5)) (5 * (Q - j) + (9 + 5 * Q) * (15 - k) + 4 * (capF n - capF us.length)) from ?_)
                    rw [hln_10.1]
                    refine (show Go g κ 254 [some (.ref m), some (.int (nI i)), some (.ref n0), some (.ref x13), some (.ref x110), some (.ref ch_4), some (.int (nI 16)), some (.int (nI k)), some (.ref fc_4k_a222), some (.ref it242), none] [.int (nI (if ¬ j = (rc.2.2.map (·.2)).length then 1 else 0))] [[(m, .inr (12, [.ref ls, .ref lb, .ref lk, .ref lp, .ref lr, .ref le, .ref lm, .ref lo, .int (nI th), .int z, .int (nI bo), .int (nI cm)]))], w1, w3, l247_3, [(it242, .inr (22, [.int (nI j), .int lr2, .int md_10, .ref ky_9]))], w2] (2 * (Q - j) + (3 + 2 * Q) * (15 - k) + (capF n / 5 - capF us.length / 5)) (5 * (Q - j) + (9 + 5 * Q) * (15 - k) + 4 * (capF n - capF us.length)) from ?_)
                    refine g_if_eq (tgt := 281) (q := 257) B dX3_heldBy_254 rfl (by decide) (bo_eq) (fun c254 => ?_) (fun c254 => ?_)
                    · skip
                      have hm2k : ∀ x, x ∈ us ↔ ((((pkM Ks i Ks.length x ∨ x = mLs r ∨ mRn r = some x) ∨ upT (mNd r) (fun n x => x = n) 31 x) ∨ x = eGo ep) ∨ x = eKy ep) ∨ upT (mCh r) mcH (k + 1) x := fun x => by
                        rw [hmu x, show j = (rc.2.2.map (·.2)).length by omega, List.take_length, upT_s (Nat.le_refl k) hrc (fun q h1 h2 => absurd h2 (by omega)), or_assoc, or_assoc]; rfl
                      have hnd2k := hnu
                      have hvb2k := hub
                      refine g_iinc (v := nI (k + 1)) (q := 284) (lv2 := [some (.ref m), some (.int (nI i)), some (.ref n0), some (.ref x13), some (.ref x110), some (.ref ch_4), some (.int (nI 16)), some (.int (nI (k + 1))), some (.ref fc_4k_a222), some (.ref it242), none]) B dX3_heldBy_281 rfl rfl (nI_add _ 1) (Nat.le_of_ble_eq_true rfl) rfl ?_
                      refine g_goto (tgt := 206) B dX3_heldBy_284 (by decide) ?_
                      refine g_fg 8 rfl ?_
                      refine g_fg 9 rfl ?_
                      refine g_pk [0, 4, 0, 0, 0] rfl rfl ?_
                      refine (show Go g κ 206 [some (.ref m), some (.int (nI i)), some (.ref n0), some (.ref x13), some (.ref x110), some (.ref ch_4), some (.int (nI 16)), some (.int (nI (k + 1))), none, none, none] [] [[(m, .inr (12, [.ref ls, .ref lb, .ref lk, .ref lp, .ref lr, .ref le, .ref lm, .ref lo, .int (nI th), .int z, .int (nI bo), .int (nI cm)]))], w2, w1, w3, l247_3] (2 * (Q - j) + (3 + 2 * Q) * (15 - k) + (capF n / 5 - capF us.length / 5)) (5 * (Q - j) + (9 + 5 * Q) * (15 - k) + 4 * (capF n - capF us.length)) from ?_)
                      refine g_room (kc2 := (3 + 2 * Q) * (16 - (k + 1)) + (capF n / 5 - capF us.length / 5)) (ks2 := (9 + 5 * Q) * (16 - (k + 1)) + 4 * (capF n - capF us.length)) (by omega) (by omega) ?_
                      exact ih206 _ (by omega) (k + 1) us l247_3 hl247_3 (by omega) (hnd2k) (hm2k) (hvb2k) (by rw [Nat.mul_succ]; omega) rfl
                    · skip
                      have c254 := Classical.not_not.mp c254
                      refine g_aload (q := 259) B dX3_heldBy_257 rfl rfl (rv_r _) ?_
                      obtain ⟨r259, hr259⟩ := get_ex (xs := (rc.2.2.map (·.2))) (i := j) (by omega)
                      obtain ⟨x259, hx259⟩ := get_ex (xs := ps_10) (i := j) (by have := get_lt2 hr259; have := hln_10.1; omega)
                      have hb_11 := Sub.box (hel_10 _ _ _ hx259 hr259)
                      refine g_callF (q := 264) (is := [4, 4]) (kc2 := 2 * (Q - j) + (3 + 2 * Q) * (15 - k) + (capF n / 5 - capF us.length / 5)) (ks2 := 5 * (Q - j) + (9 + 5 * Q) * (15 - k) + 4 * (capF n - capF us.length)) B [] (ct_J19_next_s g J (p := ky_9) (xs := ps_10) (md := md_10) (cap := ck_9) (it := it242) (c := j) (lr := lr2) (x := x259) (W1 := w2)  (hli_10) (hx259)) dX3_heldBy_259 rfl (ci := 22) rfl (rc_at B (ci := 22) rfl (k := 4) rfl) q3236 q967 q969 q104 q971 q966 q965 q970 q968 q939 rfl rfl mojava_util_Iterator_next___Ljava_lang_Object_ rfl rfl (by decide) (by decide) (Nat.le_of_ble_eq_true rfl) (by omega) (by omega) (fun _ _ hx => noX_x hx) (fun v259 L1 hp259 => ?_)
                      obtain ⟨rfl, rfl⟩ := hp259
                      refine (show Go g κ 264 [some (.ref m), some (.int (nI i)), some (.ref n0), some (.ref x13), some (.ref x110), some (.ref ch_4), some (.int (nI 16)), some (.int (nI k)), some (.ref fc_4k_a222), some (.ref it242), none] [.ref x259] [[(m, .inr (12, [.ref ls, .ref lb, .ref lk, .ref lp, .ref lr, .ref le, .ref lm, .ref lo, .int (nI th), .int z, .int (nI bo), .int (nI cm)]))], w1, w3, l247_3, [(it242, .inr (22, [.int (nI (j + 1)), .int (nI j), .int md_10, .ref ky_9]))], w2] (2 * (Q - j) + (3 + 2 * Q) * (15 - k) + (capF n / 5 - capF us.length / 5)) (5 * (Q - j) + (9 + 5 * Q) * (15 - k) + 4 * (capF n - capF us.length)) from ?_)
                      refine g_castRS (ci := 35) (q := 267) B rfl (rc_bxat B J (k := 5) rfl hb_11) dX3_heldBy_264 rfl q3240 ?_
                      refine g_callV (q := 270) (is := [5]) (kc2 := 2 * (Q - j) + (3 + 2 * Q) * (15 - k) + (capF n / 5 - capF us.length / 5)) (ks2 := 5 * (Q - j) + (9 + 5 * Q) * (15 - k) + 4 * (capF n - capF us.length)) B [] (ct_J26_intValue_b g J (a := x259) (v := nI r259) (wb := w2)  (hb_11)) dX3_heldBy_267 rfl (rc_bxat B J (k := 5) rfl hb_11) rfl q3241 q1052 q1053 q111 q1054 rfl rfl moJ26_intValue rfl rfl (by decide) (by decide) (Nat.le_of_ble_eq_true rfl) (by omega) (by omega) (fun _ _ hx => noX_x hx) (fun v267 L1 hp267 => ?_)
                      obtain ⟨rfl, rfl⟩ := hp267
                      refine (show Go g κ 270 [some (.ref m), some (.int (nI i)), some (.ref n0), some (.ref x13), some (.ref x110), some (.ref ch_4), some (.int (nI 16)), some (.int (nI k)), some (.ref fc_4k_a222), some (.ref it242), none] [.int (nI r259)] [[(m, .inr (12, [.ref ls, .ref lb, .ref lk, .ref lp, .ref lr, .ref le, .ref lm, .ref lo, .int (nI th), .int z, .int (nI bo), .int (nI cm)]))], w1, w3, l247_3, [(it242, .inr (22, [.int (nI (j + 1)), .int (nI j), .int md_10, .ref ky_9]))], w2] (2 * (Q - j) + (3 + 2 * Q) * (15 - k) + (capF n / 5 - capF us.length / 5)) (5 * (Q - j) + (9 + 5 * Q) * (15 - k) + 4 * (capF n - capF us.length)) from ?_)
                      refine g_istore (q := 272) (lv2 := [some (.ref m), some (.int (nI i)), some (.ref n0), some (.ref x13), some (.ref x110), some (.ref ch_4), some (.int (nI 16)), some (.int (nI k)), some (.ref fc_4k_a222), some (.ref it242), some (.int (nI r259))]) B dX3_heldBy_270 rfl (Nat.le_of_ble_eq_true rfl) rfl ?_
                      refine g_aload_n (q := 273) B dX3_heldBy_272 rfl rfl (rv_r _) ?_
                      refine g_iload (q := 275) B dX3_heldBy_273 rfl rfl ?_
                      have ho_275 : ∀ x, (some r259) = some x → x < n := fun x e => hbd x (Or.inr ⟨v97, ep, ev97, hepe, Or.inr (Or.inr (Or.inr (Or.inr (Or.inr ⟨k, rc, by omega, hrc, by cases e; exact Or.inr (List.mem_of_getElem? hr259)⟩))))⟩)
                      have hd_275 : (putL us (some r259)).Nodup := nd_putL _ hnu
                      have hb_275 : ∀ x ∈ (putL us (some r259)), x < n := fun x hx => ((mem_putL _ _ x).mp hx).elim (hub x) (ho_275 x)
                      have hl_275 := nodup_len n _ hd_275 hb_275
                      have hl0_275 := putL_len us (some r259)
                      have hc1_275 := capF_m hl_275
                      have hc2_275 := capF_m hl0_275.1
                      refine g_callS (q := 278) (is := [3]) (kc2 := 2 * (Q - (j + 1)) + (3 + 2 * Q) * (15 - k) + (capF n / 5 - capF (putL us (some r259)).length / 5)) (ks2 := 5 * (Q - (j + 1)) + (9 + 5 * Q) * (15 - k) + 4 * (capF n - capF (putL us (some r259)).length)) B [.ref n0, .int (nI r259)] (ct_X3_puts g J (p := n0) (vs := us) (o := (some r259)) hl247_3 (fun x e => by have := ho_275 x e; omega) (fun x hx => by have := hub x hx; omega) (by omega)) dX3_heldBy_275 rfl q3237 q3238 q85 q3239 rfl rfl moX3_puts rfl rfl (by decide) (by decide) (Nat.le_of_ble_eq_true rfl) (by omega) (by omega) (fun _ _ hx => noX_x hx) (fun v275 L1 hp275 => ?_)
                      obtain ⟨u0_275, rfl, rfl, hu0_275⟩ := hp275
                      refine (show Go g κ 278 [some (.ref m), some (.int (nI i)), some (.ref n0), some (.ref x13), some (.ref x110), some (.ref ch_4), some (.int (nI 16)), some (.int (nI k)), some (.ref fc_4k_a222), some (.ref it242), some (.int (nI r259))] [] [[(m, .inr (12, [.ref ls, .ref lb, .ref lk, .ref lp, .ref lr, .ref le, .ref lm, .ref lo, .int (nI th), .int z, .int (nI bo), .int (nI cm)]))], w1, w3, [(it242, .inr (22, [.int (nI (j + 1)), .int (nI j), .int md_10, .ref ky_9]))], w2, u0_275] (2 * (Q - (j + 1)) + (3 + 2 * Q) * (15 - k) + (capF n / 5 - capF (putL us (some r259)).length / 5)) (5 * (Q - (j + 1)) + (9 + 5 * Q) * (15 - k) + 4 * (capF n - capF (putL us (some r259)).length)) from ?_)
                      refine g_goto (tgt := 247) B dX3_heldBy_278 (by decide) ?_
                      refine g_fg 10 rfl ?_
                      refine g_pk [0, 0, 0, 2, 0, 0] rfl rfl ?_
                      refine (show Go g κ 247 [some (.ref m), some (.int (nI i)), some (.ref n0), some (.ref x13), some (.ref x110), some (.ref ch_4), some (.int (nI 16)), some (.int (nI k)), some (.ref fc_4k_a222), some (.ref it242), none] [] [[(m, .inr (12, [.ref ls, .ref lb, .ref lk, .ref lp, .ref lr, .ref le, .ref lm, .ref lo, .int (nI th), .int z, .int (nI bo), .int (nI cm)]))], w1, w3, u0_275, [(it242, .inr (22, [.int (nI (j + 1)), .int (nI j), .int md_10, .ref ky_9]))], w2] (2 * (Q - (j + 1)) + (3 + 2 * Q) * (15 - k) + (capF n / 5 - capF (putL us (some r259)).length / 5)) (5 * (Q - (j + 1)) + (9 + 5 * Q) * (15 - k) + 4 * (capF n - capF (putL us (some r259)).length)) from ?_)
                      exact ih247 _ (by have := get_lt2 hr259; omega) (j + 1) (nI j) (putL us (some r259)) u0_275 hu0_275 (by first | assumption | omega | rfl) (hd_275) (fun x => by rw [mem_putL, hmu x, mem_tk1 hr259, or_assoc]) (hb_275) (by omega) rfl
                  refine g_room (kc2 := 2 * (Q - 0) + (3 + 2 * Q) * (15 - k) + (capF n / 5 - capF (putL vs (some rc.1)).length / 5)) (ks2 := 5 * (Q - 0) + (9 + 5 * Q) * (15 - k) + 4 * (capF n - capF (putL vs (some rc.1)).length)) (by omega) (by omega) ?_
                  exact lp247 _ 0 (-1) (putL vs (some rc.1)) u0_234 hu0_234 (Nat.zero_le _) (hnd3) (fun x => (hm3 x).trans ⟨Or.inl, fun h => h.elim id fun z => (by simp at z)⟩) (hvb3) (by omega) rfl
                · skip
                  rw [c222]
                  refine (show Go g κ 225 [some (.ref m), some (.int (nI i)), some (.ref n0), some (.ref x13), some (.ref x110), some (.ref ch_4), some (.int (nI 16)), some (.int (nI k)), some (.null), none, none] [] [[(m, .inr (12, [.ref ls, .ref lb, .ref lk, .ref lp, .ref lr, .ref le, .ref lm, .ref lo, .int (nI th), .int z, .int (nI bo), .int (nI cm)]))], w2, w1, w3, l206_4] ((3 + 2 * Q) * (16 - k) + (capF n / 5 - capF vs.length / 5)) ((9 + 5 * Q) * (16 - k) + 4 * (capF n - capF vs.length)) from ?_)
                  have hFn := BgM.noS (hs_4_0) hoc_4 c222
                  refine g_goto (tgt := 281) B dX3_heldBy_225 (by decide) ?_
                  refine g_iinc (v := nI (k + 1)) (q := 284) (lv2 := [some (.ref m), some (.int (nI i)), some (.ref n0), some (.ref x13), some (.ref x110), some (.ref ch_4), some (.int (nI 16)), some (.int (nI (k + 1))), some (.null), none, none]) B dX3_heldBy_281 rfl rfl (nI_add _ 1) (Nat.le_of_ble_eq_true rfl) rfl ?_
                  refine g_goto (tgt := 206) B dX3_heldBy_284 (by decide) ?_
                  refine g_fg 8 rfl ?_
                  refine g_room (kc2 := (3 + 2 * Q) * (16 - (k + 1)) + (capF n / 5 - capF vs.length / 5)) (ks2 := (9 + 5 * Q) * (16 - (k + 1)) + 4 * (capF n - capF vs.length)) (by omega) (by omega) ?_
                  exact ih206 _ (by omega) (k + 1) vs l206_4 hl206_4 (by omega) (hnd) (fun x => by rw [hm x, upT_n1 hFn]) (hvb) (by rw [Nat.mul_succ]; omega) rfl
            refine g_room (kc2 := (3 + 2 * Q) * (16 - 0) + (capF n / 5 - capF (putL (putL vs (some (eGo ep))) (some (eKy ep))).length / 5)) (ks2 := (9 + 5 * Q) * (16 - 0) + 4 * (capF n - capF (putL (putL vs (some (eGo ep))) (some (eKy ep))).length)) (by omega) (by omega) ?_
            exact lp206 _ 0 (putL (putL vs (some (eGo ep))) (some (eKy ep))) u0_189 hu0_189 (Nat.zero_le _) (hnd2) (fun x => (hm2 x).trans ⟨Or.inl, fun h => h.elim id fun z => absurd z upT_0⟩) (hvb2) (by omega) rfl
          · skip
            refine g_aload (q := 157) B dX3_heldBy_155 rfl rfl (rv_r _) ?_
            refine g_iload (q := 159) B dX3_heldBy_157 rfl rfl ?_
            refine g_ialdM (v := oI ((mNd r) k)) (q := 160) B (k := 1) dX3_heldBy_159 rfl rfl (hc_4_1) (vp_in_nI (by omega) (by omega)) (by rw [nI_clamp (by omega)]; exact hfn_4 _ (by omega)) ?_
            refine g_istore (q := 162) (lv2 := [some (.ref m), some (.int (nI i)), some (.ref n0), some (.ref x13), some (.ref x110), some (.ref nd_4), some (.int (nI 31)), some (.int (nI k)), some (.int (oI ((mNd r) k))), none, none]) B dX3_heldBy_160 rfl (Nat.le_of_ble_eq_true rfl) rfl ?_
            refine g_aload_n (q := 163) B dX3_heldBy_162 rfl rfl (rv_r _) ?_
            refine g_iload (q := 165) B dX3_heldBy_163 rfl rfl ?_
            have ho_165 : ∀ x, ((mNd r) k) = some x → x < n := fun x e => hbd x (Or.inr ⟨v97, ep, ev97, hepe, Or.inr (Or.inr (Or.inl ⟨k, x, by omega, e, rfl⟩))⟩)
            have hd_165 : (putL vs ((mNd r) k)).Nodup := nd_putL _ hnd
            have hb_165 : ∀ x ∈ (putL vs ((mNd r) k)), x < n := fun x hx => ((mem_putL _ _ x).mp hx).elim (hvb x) (ho_165 x)
            have hl_165 := nodup_len n _ hd_165 hb_165
            have hl0_165 := putL_len vs ((mNd r) k)
            have hc1_165 := capF_m hl_165
            have hc2_165 := capF_m hl0_165.1
            refine g_callS (q := 168) (is := [4]) (kc2 := 2 * (30 - k) + (52 + 32 * Q) + (capF n / 5 - capF (putL vs ((mNd r) k)).length / 5)) (ks2 := 5 * (30 - k) + (154 + 80 * Q) + 4 * (capF n - capF (putL vs ((mNd r) k)).length)) B [.ref n0, .int (oI ((mNd r) k))] (ct_X3_puts g J (p := n0) (vs := vs) (o := ((mNd r) k)) hl148_4 (fun x e => by have := ho_165 x e; omega) (fun x hx => by have := hvb x hx; omega) (by omega)) dX3_heldBy_165 rfl q3237 q3238 q85 q3239 rfl rfl moX3_puts rfl rfl (by decide) (by decide) (Nat.le_of_ble_eq_true rfl) (by omega) (by omega) (fun _ _ hx => noX_x hx) (fun v165 L1 hp165 => ?_)
            obtain ⟨u0_165, rfl, rfl, hu0_165⟩ := hp165
            refine (show Go g κ 168 [some (.ref m), some (.int (nI i)), some (.ref n0), some (.ref x13), some (.ref x110), some (.ref nd_4), some (.int (nI 31)), some (.int (nI k)), some (.int (oI ((mNd r) k))), none, none] [] [[(m, .inr (12, [.ref ls, .ref lb, .ref lk, .ref lp, .ref lr, .ref le, .ref lm, .ref lo, .int (nI th), .int z, .int (nI bo), .int (nI cm)]))], w2, w1, w3, u0_165] (2 * (30 - k) + (52 + 32 * Q) + (capF n / 5 - capF (putL vs ((mNd r) k)).length / 5)) (5 * (30 - k) + (154 + 80 * Q) + 4 * (capF n - capF (putL vs ((mNd r) k)).length)) from ?_)
            refine g_iinc (v := nI (k + 1)) (q := 171) (lv2 := [some (.ref m), some (.int (nI i)), some (.ref n0), some (.ref x13), some (.ref x110), some (.ref nd_4), some (.int (nI 31)), some (.int (nI (k + 1))), some (.int (oI ((mNd r) k))), none, none]) B dX3_heldBy_168 rfl rfl (nI_add _ 1) (Nat.le_of_ble_eq_true rfl) rfl ?_
            refine g_goto (tgt := 148) B dX3_heldBy_171 (by decide) ?_
            refine g_fg 8 rfl ?_
            refine g_room (kc2 := 2 * (31 - (k + 1)) + (52 + 32 * Q) + (capF n / 5 - capF (putL vs ((mNd r) k)).length / 5)) (ks2 := 5 * (31 - (k + 1)) + (154 + 80 * Q) + 4 * (capF n - capF (putL vs ((mNd r) k)).length)) (by omega) (by omega) ?_
            exact ih148 _ (by omega) (k + 1) (putL vs ((mNd r) k)) u0_165 hu0_165 (by omega) (hd_165) (fun x => by rw [mem_putL, hm x, upT_so, or_assoc]) (hb_165) (by omega) rfl
        refine g_room (kc2 := 2 * (31 - 0) + (52 + 32 * Q) + (capF n / 5 - capF (putL (putL vs (some (mLs r))) (mRn r)).length / 5)) (ks2 := 5 * (31 - 0) + (154 + 80 * Q) + 4 * (capF n - capF (putL (putL vs (some (mLs r))) (mRn r)).length)) (by omega) (by omega) ?_
        exact lp148 _ 0 (putL (putL vs (some (mLs r))) (mRn r)) u0_131 hu0_131 (Nat.zero_le _) (hnd0) (fun x => (hm0 x).trans ⟨Or.inl, fun h => h.elim id fun z => absurd z upT_0⟩) (hvb0) (by omega) rfl
      · skip
        have c97 := Classical.not_not.mp c97
        refine g_aload_n (q := 101) B dX3_heldBy_100 rfl rfl (rv_r _) ?_
        refine g_pk [0, 3, 2, 0, 0] rfl rfl ?_
        refine (show Go g κ 101 [some (.ref m), some (.int (nI i)), some (.ref n0), some (.ref x13), some (.ref it24), none, none, none, none, none, none] [.ref n0] [[(m, .inr (12, [.ref ls, .ref lb, .ref lk, .ref lp, .ref lr, .ref le, .ref lm, .ref lo, .int (nI th), .int z, .int (nI bo), .int (nI cm)]))], w1, w2, w3, l29_2] (4 * (Ks.length - k) + (118 + 32 * Q) + (capF n / 5 - capF vs.length / 5)) (10 * (Ks.length - k) + (319 + 80 * Q) + 4 * (capF n - capF vs.length)) from ?_)
        exact g_aret B E dX3_heldBy_101 (by first | exact Or.inl ⟨_, rfl⟩ | exact Or.inr ⟨_, rfl⟩) (rv_r _) (⟨n0, vs, l29_2, rfl, rfl, hl29_2, (fun x => (hmp x).trans ⟨Or.inl, fun h => h.elim id fun ⟨e, _, z, _⟩ => by rw [c97] at z; cases z⟩), hnd, by omega⟩)
    · skip
      have c36 := Classical.not_not.mp c36
      refine g_aload (q := 41) B dX3_heldBy_39 rfl rfl (rv_r _) ?_
      obtain ⟨r41, hr41⟩ := get_ex (xs := Ks) (i := k) (by omega)
      obtain ⟨x41, hx41⟩ := get_ex (xs := mks) (i := k) (by have := get_lt2 hr41; have := hln_5.1; omega)
      have hE_12 := hel_5 _ _ _ hx41 hr41
      refine g_callF (q := 46) (is := [4, 4]) (kc2 := 4 * (Ks.length - k) + (118 + 32 * Q) + (capF n / 5 - capF vs.length / 5)) (ks2 := 10 * (Ks.length - k) + (319 + 80 * Q) + 4 * (capF n - capF vs.length)) B [] (ct_J19_next_s g J (p := lk) (xs := mks) (md := md_5) (cap := kcap) (it := it24) (c := k) (lr := lrt) (x := x41) (W1 := w1)  (hli_5) (hx41)) dX3_heldBy_41 rfl (ci := 22) rfl (rc_at B (ci := 22) rfl (k := 4) rfl) q3236 q967 q969 q104 q971 q966 q965 q970 q968 q939 rfl rfl mojava_util_Iterator_next___Ljava_lang_Object_ rfl rfl (by decide) (by decide) (Nat.le_of_ble_eq_true rfl) (by omega) (by omega) (fun _ _ hx => noX_x hx) (fun v41 L1 hp41 => ?_)
      obtain ⟨rfl, rfl⟩ := hp41
      refine (show Go g κ 46 [some (.ref m), some (.int (nI i)), some (.ref n0), some (.ref x13), some (.ref it24), none, none, none, none, none, none] [.ref x41] [[(m, .inr (12, [.ref ls, .ref lb, .ref lk, .ref lp, .ref lr, .ref le, .ref lm, .ref lo, .int (nI th), .int z, .int (nI bo), .int (nI cm)]))], w3, l29_2, w2, [(it24, .inr (22, [.int (nI (k + 1)), .int (nI k), .int md_5, .ref lk]))], w1] (4 * (Ks.length - k) + (118 + 32 * Q) + (capF n / 5 - capF vs.length / 5)) (10 * (Ks.length - k) + (319 + 80 * Q) + 4 * (capF n - capF vs.length)) from ?_)
      refine g_castRS (ci := 15) (q := 49) B rfl (rc_in B (ci := 15) rfl (k := 5) rfl (Sub.hm (hE_12) fun _ z => MqP.hm z)) dX3_heldBy_46 rfl q3198 ?_
      refine g_astore (q := 51) (lv2 := [some (.ref m), some (.int (nI i)), some (.ref n0), some (.ref x13), some (.ref it24), some (.ref x41), none, none, none, none, none]) B dX3_heldBy_49 rfl (Nat.le_of_ble_eq_true rfl) (rv_r _) rfl ?_
      have hkb := (MqP.at (hE_12)).1
      refine g_aload (q := 53) B dX3_heldBy_51 rfl rfl (rv_r _) ?_
      obtain ⟨hK_13, hc_13_0⟩ := MqP.at (hE_12)
      refine g_getNM (q := 56) B (ci := 15) (k := 5) (j := 0) in_X9 rfl dX3_heldBy_53 rfl rfl (hc_13_0) (Nat.le_of_ble_eq_true rfl) q3205 rfl rfl ?_
      refine g_iload_n (q := 57) B dX3_heldBy_56 rfl rfl ?_
      refine g_icmp_ne (tgt := 29) (q := 60) B dX3_heldBy_57 rfl (by decide) (not_congr (nI_eq (by have := hkb.1; omega) (by omega))) (fun c57 => ?_) (fun c57 => ?_)
      · skip
        refine g_fg 5 rfl ?_
        refine g_room (kc2 := 4 * (Ks.length - (k + 1)) + (118 + 32 * Q) + (capF n / 5 - capF vs.length / 5)) (ks2 := 10 * (Ks.length - (k + 1)) + (319 + 80 * Q) + 4 * (capF n - capF vs.length)) (by omega) (by omega) ?_
        exact ih29 _ (by have := get_lt2 hr41; omega) (k + 1) (nI k) vs l29_2 hl29_2 (by first | assumption | omega | rfl) (hnd) (fun x => by rw [hm x, pkM_n hr41 (by rintro ⟨z1, z2⟩; first | exact c57 z1 | exact z2 c65)]) (hvb) (by omega) rfl
      · skip
        have c57 := Classical.not_not.mp c57
        refine g_aload (q := 62) B dX3_heldBy_60 rfl rfl (rv_r _) ?_
        refine g_getNM (q := 65) B (ci := 15) (k := 5) (j := 4) in_X9 rfl dX3_heldBy_62 rfl rfl (hc_13_0) (Nat.le_of_ble_eq_true rfl) q3211 rfl rfl ?_
        refine g_if_eq (tgt := 71) (q := 68) B dX3_heldBy_65 rfl (by decide) (bo_eq) (fun c65 => ?_) (fun c65 => ?_)
        · skip
          refine g_aload_n (q := 72) B dX3_heldBy_71 rfl rfl (rv_r _) ?_
          refine g_aload (q := 74) B dX3_heldBy_72 rfl rfl (rv_r _) ?_
          refine g_getNM (q := 77) B (ci := 15) (k := 5) (j := 1) in_X9 rfl dX3_heldBy_74 rfl rfl (hc_13_0) (Nat.le_of_ble_eq_true rfl) q3207 rfl rfl ?_
          have ho_77 : ∀ x, (some r41.2.1) = some x → x < n := fun x e => hbd x (Or.inl ⟨k, r41, by have := get_lt2 hr41; omega, hr41, c57, c65, by cases e; exact Or.inl rfl⟩)
          have hd_77 : (putL vs (some r41.2.1)).Nodup := nd_putL _ hnd
          have hb_77 : ∀ x ∈ (putL vs (some r41.2.1)), x < n := fun x hx => ((mem_putL _ _ x).mp hx).elim (hvb x) (ho_77 x)
          have hl_77 := nodup_len n _ hd_77 hb_77
          have hl0_77 := putL_len vs (some r41.2.1)
          have hc1_77 := capF_m hl_77
          have hc2_77 := capF_m hl0_77.1
          refine g_callS (q := 80) (is := [2]) (kc2 := 2 + 4 * (Ks.length - (k + 1)) + (118 + 32 * Q) + (capF n / 5 - capF (putL vs (some r41.2.1)).length / 5)) (ks2 := 5 + 10 * (Ks.length - (k + 1)) + (319 + 80 * Q) + 4 * (capF n - capF (putL vs (some r41.2.1)).length)) B [.ref n0, .int (nI r41.2.1)] (ct_X3_puts g J (p := n0) (vs := vs) (o := (some r41.2.1)) hl29_2 (fun x e => by have := ho_77 x e; omega) (fun x hx => by have := hvb x hx; omega) (by omega)) dX3_heldBy_77 rfl q3237 q3238 q85 q3239 rfl rfl moX3_puts rfl rfl (by decide) (by decide) (Nat.le_of_ble_eq_true rfl) (by omega) (by omega) (fun _ _ hx => noX_x hx) (fun v77 L1 hp77 => ?_)
          obtain ⟨u0_77, rfl, rfl, hu0_77⟩ := hp77
          refine (show Go g κ 80 [some (.ref m), some (.int (nI i)), some (.ref n0), some (.ref x13), some (.ref it24), some (.ref x41), none, none, none, none, none] [] [[(m, .inr (12, [.ref ls, .ref lb, .ref lk, .ref lp, .ref lr, .ref le, .ref lm, .ref lo, .int (nI th), .int z, .int (nI bo), .int (nI cm)]))], w3, w2, [(it24, .inr (22, [.int (nI (k + 1)), .int (nI k), .int md_5, .ref lk]))], w1, u0_77] (2 + 4 * (Ks.length - (k + 1)) + (118 + 32 * Q) + (capF n / 5 - capF (putL vs (some r41.2.1)).length / 5)) (5 + 10 * (Ks.length - (k + 1)) + (319 + 80 * Q) + 4 * (capF n - capF (putL vs (some r41.2.1)).length)) from ?_)
          refine g_aload_n (q := 81) B dX3_heldBy_80 rfl rfl (rv_r _) ?_
          refine g_aload (q := 83) B dX3_heldBy_81 rfl rfl (rv_r _) ?_
          refine g_getNM (q := 86) B (ci := 15) (k := 4) (j := 2) in_X9 rfl dX3_heldBy_83 rfl rfl (hc_13_0) (Nat.le_of_ble_eq_true rfl) q3209 rfl rfl ?_
          have ho_86 : ∀ x, (some r41.2.2.1) = some x → x < n := fun x e => hbd x (Or.inl ⟨k, r41, by have := get_lt2 hr41; omega, hr41, c57, c65, by cases e; exact Or.inr rfl⟩)
          have hd_86 : (putL (putL vs (some r41.2.1)) (some r41.2.2.1)).Nodup := nd_putL _ hd_77
          have hb_86 : ∀ x ∈ (putL (putL vs (some r41.2.1)) (some r41.2.2.1)), x < n := fun x hx => ((mem_putL _ _ x).mp hx).elim (hb_77 x) (ho_86 x)
          have hl_86 := nodup_len n _ hd_86 hb_86
          have hl0_86 := putL_len (putL vs (some r41.2.1)) (some r41.2.2.1)
          have hc1_86 := capF_m hl_86
          have hc2_86 := capF_m hl0_86.1
          refine g_callS (q := 89) (is := [5]) (kc2 := 4 * (Ks.length - (k + 1)) + (118 + 32 * Q) + (capF n / 5 - capF (putL (putL vs (some r41.2.1)) (some r41.2.2.1)).length / 5)) (ks2 := 10 * (Ks.length - (k + 1)) + (319 + 80 * Q) + 4 * (capF n - capF (putL (putL vs (some r41.2.1)) (some r41.2.2.1)).length)) B [.ref n0, .int (nI r41.2.2.1)] (ct_X3_puts g J (p := n0) (vs := (putL vs (some r41.2.1))) (o := (some r41.2.2.1)) hu0_77 (fun x e => by have := ho_86 x e; omega) (fun x hx => by have := hb_77 x hx; omega) (by omega)) dX3_heldBy_86 rfl q3237 q3238 q85 q3239 rfl rfl moX3_puts rfl rfl (by decide) (by decide) (Nat.le_of_ble_eq_true rfl) (by omega) (by omega) (fun _ _ hx => noX_x hx) (fun v86 L1 hp86 => ?_)
          obtain ⟨u0_86, rfl, rfl, hu0_86⟩ := hp86
          refine (show Go g κ 89 [some (.ref m), some (.int (nI i)), some (.ref n0), some (.ref x13), some (.ref it24), some (.ref x41), none, none, none, none, none] [] [[(m, .inr (12, [.ref ls, .ref lb, .ref lk, .ref lp, .ref lr, .ref le, .ref lm, .ref lo, .int (nI th), .int z, .int (nI bo), .int (nI cm)]))], w3, w2, [(it24, .inr (22, [.int (nI (k + 1)), .int (nI k), .int md_5, .ref lk]))], w1, u0_86] (4 * (Ks.length - (k + 1)) + (118 + 32 * Q) + (capF n / 5 - capF (putL (putL vs (some r41.2.1)) (some r41.2.2.1)).length / 5)) (10 * (Ks.length - (k + 1)) + (319 + 80 * Q) + 4 * (capF n - capF (putL (putL vs (some r41.2.1)) (some r41.2.2.1)).length)) from ?_)
          refine g_goto (tgt := 29) B dX3_heldBy_89 (by decide) ?_
          refine g_fg 5 rfl ?_
          refine g_pk [0, 0, 3, 0, 0, 0] rfl rfl ?_
          refine (show Go g κ 29 [some (.ref m), some (.int (nI i)), some (.ref n0), some (.ref x13), some (.ref it24), none, none, none, none, none, none] [] [[(m, .inr (12, [.ref ls, .ref lb, .ref lk, .ref lp, .ref lr, .ref le, .ref lm, .ref lo, .int (nI th), .int z, .int (nI bo), .int (nI cm)]))], w3, u0_86, w2, [(it24, .inr (22, [.int (nI (k + 1)), .int (nI k), .int md_5, .ref lk]))], w1] (4 * (Ks.length - (k + 1)) + (118 + 32 * Q) + (capF n / 5 - capF (putL (putL vs (some r41.2.1)) (some r41.2.2.1)).length / 5)) (10 * (Ks.length - (k + 1)) + (319 + 80 * Q) + 4 * (capF n - capF (putL (putL vs (some r41.2.1)) (some r41.2.2.1)).length)) from ?_)
          exact ih29 _ (by have := get_lt2 hr41; omega) (k + 1) (nI k) (putL (putL vs (some r41.2.1)) (some r41.2.2.1)) u0_86 hu0_86 (by first | assumption | omega | rfl) (hd_86) (fun x => by rw [mem_putL, mem_putL, hm x, pkM_y hr41 c57 c65]) (hb_86) (by omega) rfl
        · skip
          have c65 := Classical.not_not.mp c65
          refine g_goto (tgt := 29) B dX3_heldBy_68 (by decide) ?_
          refine g_fg 5 rfl ?_
          refine g_room (kc2 := 4 * (Ks.length - (k + 1)) + (118 + 32 * Q) + (capF n / 5 - capF vs.length / 5)) (ks2 := 10 * (Ks.length - (k + 1)) + (319 + 80 * Q) + 4 * (capF n - capF vs.length)) (by omega) (by omega) ?_
          exact ih29 _ (by have := get_lt2 hr41; omega) (k + 1) (nI k) vs l29_2 hl29_2 (by first | assumption | omega | rfl) (hnd) (fun x => by rw [hm x, pkM_n hr41 (by rintro ⟨z1, z2⟩; first | exact c57 z1 | exact z2 c65)]) (hvb) (by omega) rfl
  refine g_room (kc2 := 4 * (Ks.length - 0) + (118 + 32 * Q) + (capF n / 5 - capF ([]).length / 5)) (ks2 := 10 * (Ks.length - 0) + (319 + 80 * Q) + 4 * (capF n - capF ([]).length)) (by omega) (by omega) ?_
  exact lp29 _ 0 (-1) ([]) u0_4 hr_1 (Nat.zero_le _) (List.nodup_nil) (fun x => ⟨fun h => (by cases h), fun h => absurd h (pkM_0 _ _ _)⟩) (fun x h => by cases h) (Nat.le_refl _) rfl
