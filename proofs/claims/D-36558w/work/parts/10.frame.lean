set_option maxRecDepth 100000
/-! ===== THE FRAME: chunks of cells, contracts over chunks, the judgement Go ===== -/
abbrev gCL : List vw_C := [(RX1, TX1, 9), (RX2, TX2, 5), (RX4, TX4, 11), (RX6, TX6, 3), (RX7, TX7, 6), (RX10, TX10, 4), (RX11, TX11, 5), (RX12, TX12, 3), (RX16, TX16, 1), (RX18, TX18, 1), (RX19, TX19, 2), (RX21, TX21, 4), (RX3, TX3, 12), (RX5, TX5, 7), (RX8, TX8, 4), (RX9, TX9, 5), (RX13, TX13, 11), (RX14, TX14, 4), (RX17, TX17, 3), (RX20, TX20, 2), (RX22, TX22, 5), (RJ2, TJ2, 3), (RJ19, TJ19, 4), (RJ4, TJ4, 8), (RJ38, TJ38, 4), (RJ40, TJ40, 11), (RJ5, TJ5, 3), (RJ10, TJ10, 9), (RJ37, TJ37, 6), (RJ28, TJ28, 1), (RJ42, TJ42, 1), (RJ46, TJ46, 1), (RJ33, TJ33, 4), (RJ34, TJ34, 4), (RJ32, TJ32, 4), (RJ26, TJ26, 1), (RJ16, TJ16, 4), (RJ22, TJ22, 4)]
/-- class numbers and slots; array classes; what is known of the heap outside for good -/
abbrev Gv : Type := va_G × (Nat → ClassId) × ((Nat → Prop) → State → Heap → Prop) × (Nat → Nat)
/-- places of things that lie outside for good -/
abbrev gA (g : Gv) (k : Nat) : Nat := g.2.2.2 k
abbrev gTY (g : Gv) : List (ClassId × FieldType) := [(g.2.1 0, .int), (g.2.1 1, .object "java/lang/Object"), (g.2.1 2, .byte), (g.2.1 3, .long), (g.2.1 4, .boolean), (g.2.1 5, .object "KeygroveModel$Chain"), (g.2.1 6, .object "java/util/HashMap$Node"), (g.2.1 7, .double)]
def gStable (F : (Nat → Prop) → State → Heap → Prop) : Prop := ∀ (A B : Nat → Prop) (u U : State) (H H1 : Heap), F A u H → u.WarmedH U.vm → (∀ a : Nat, a < H.size → ¬ A a → H1[a]? = H[a]?) → (∀ q, B q → A q) → F B U H1
def nwk : Cond → Bool
  | .castable _ _ => true
  | .declares _ => true
  | .fieldLinkNest _ _ _ _ _ _ => true
  | .methodLinkNest _ _ _ _ => true
  | .publicMethod _ => true
  | .privateMethod _ => true
  | .unhidden _ _ _ => true
  | _ => false
def gNc : List Cond := (flatC narrow_1).filter fun c => match c with
  | .not (.castable _ _) => true
  | _ => false
def gWords (U : State) : Prop := (∀ w ∈ lw_tbl, nwk w = true → va_Nw w U) ∧ (∀ i n d : String, Cond.interfaceMethod i i n d ∈ lw_tbl → (i ≠ "java/lang/invoke/MethodHandle" ∧ i ≠ "java/lang/invoke/VarHandle") → Cond.declares ⟨i, n, d⟩ ∈ lw_tbl → va_Nw (.interfaceMethod i i n d) U) ∧ (∀ C : String, Cond.arrayOver (.object C) ∈ lw_tbl → va_AO C U) ∧ ∀ C T : String, Cond.not (.castable C T) ∈ gNc → va_Nc C T U
theorem gWords.warm {s U : State} (hW : s.WarmedH U.vm) (h : gWords s) : gWords U := by
  obtain ⟨h1, h2, h3, h4⟩ := h
  have tr : ∀ {c : Cond}, c.onTables = true → c.before #[] (s.setVm U.vm) = true → va_Nw c U := by
    intro c hc h
    exact va_tabs hc (rfl : (s.setVm U.vm).vm = U.vm) h
  refine ⟨fun w hw hk => ?_, fun i n d hm hi hd => ?_, fun C hC => va_AO.moved hW.alike (h3 C hC), fun C T hC => va_Nc.moved hW.alike (h4 C T hC)⟩
  · have h0 := h1 w hw hk
    cases w <;> first
      | exact va_Nw.warmC hW h0
      | exact va_Nw.warmD hW h0
      | exact va_Nw.warmF hW h0
      | exact va_Nw.warmM hW h0
      | exact tr rfl (by rw [Cond.publicMethod_setVm hW.alike]; exact h0)
      | exact tr rfl (by rw [Cond.privateMethod_setVm hW.alike]; exact h0)
      | exact tr rfl (by rw [Cond.unhidden_setVm hW.alike]; exact h0)
      | (simp [nwk] at hk)
  · have hdd := h1 _ hd rfl
    obtain ⟨r, meth, hn, -⟩ := Cond.declares_spec (show (Cond.declares ⟨i, n, d⟩).before #[] s = true from hdd)
    exact tr rfl (by rw [Cond.interfaceMethod_setVm hW.alike (r := r) hn hi]; exact h2 i n d hm hi hd)
/-- what every method may lean on: the classes, the tables' words, the heap outside -/
def Ev (g : Gv) (A : Nat → Prop) (U : State) (H : Heap) : Prop := va_K g.1 gCL (gTY g) U ∧ gWords U ∧ g.2.2.1 A U H ∧ gStable g.2.2.1
theorem Ev.go {g : Gv} {A B : Nat → Prop} {s U : State} {H H1 : Heap} (h : Ev g A s H) (hW : s.WarmedH U.vm) (hk : ∀ a : Nat, a < H.size → ¬ A a → H1[a]? = H[a]?) (hB : ∀ q, B q → A q) : Ev g B U H1 :=
  ⟨va_K.moved hW.alike h.1, h.2.1.warm hW, h.2.2.2 A B s U H H1 h.2.2.1 hW hk hB, h.2.2.2⟩
/-! chunks -/
theorem cp_mem {D : va_G} {cl : List vw_C} {ws : va_W} {H : Heap} (h : va_P D cl ws H) {q : Nat × va_E} (hq : q ∈ ws) : va_at D cl q H := by
  obtain ⟨k, hk⟩ := List.getElem?_of_mem hq
  exact h k q hk
theorem cp_of {D : va_G} {cl : List vw_C} {ws : va_W} {H : Heap} (h : ∀ q ∈ ws, va_at D cl q H) : va_P D cl ws H := fun k q hk => h q (List.mem_of_getElem? hk)
theorem cd_iff {A : Nat → Prop} {ws : va_W} : va_D A ws ↔ (ws.map (·.1)).Nodup ∧ ∀ q ∈ ws, A q.1 := by
  constructor
  · rintro ⟨h1, h2⟩
    refine ⟨?_, fun q hq => ?_⟩
    · rw [List.Nodup, List.pairwise_iff_getElem]
      intro i j hi hj hij he
      rw [List.length_map] at hi hj
      rw [List.getElem_map, List.getElem_map] at he
      exact absurd (h1 i j _ _ (List.getElem?_eq_getElem hi) (List.getElem?_eq_getElem hj) he) (Nat.ne_of_lt hij)
    · obtain ⟨k, hk⟩ := List.getElem?_of_mem hq
      exact h2 k q hk
  · rintro ⟨h1, h2⟩
    refine ⟨fun i j p q hi hj he => ?_, fun k q hk => h2 q (List.mem_of_getElem? hk)⟩
    rw [List.Nodup, List.pairwise_iff_getElem] at h1
    obtain ⟨hi', ei⟩ := List.getElem?_eq_some_iff.mp hi
    obtain ⟨hj', ej⟩ := List.getElem?_eq_some_iff.mp hj
    rcases Nat.lt_trichotomy i j with h | h | h
    · exact absurd (by rw [List.getElem_map, List.getElem_map, ei, ej]; exact he) (h1 i j (by rw [List.length_map]; exact hi') (by rw [List.length_map]; exact hj') h)
    · exact h
    · exact absurd (by rw [List.getElem_map, List.getElem_map, ei, ej]; exact he.symm) (h1 j i (by rw [List.length_map]; exact hj') (by rw [List.length_map]; exact hi') h)
/-- a world: the cells of its chunks are there, apart, and of the kind A -/
def Wl (g : Gv) (A : Nat → Prop) (L : List va_W) (H : Heap) : Prop := va_P g.1 gCL L.flatten H ∧ va_D A L.flatten
theorem Wl.to {g : Gv} {A : Nat → Prop} {L L2 : List va_W} {R : va_W} {H : Heap} (h : Wl g A L H) (hp : L.flatten.Perm (L2.flatten ++ R)) : Wl g A L2 H := by
  obtain ⟨h1, h2⟩ := h
  rw [cd_iff] at h2
  refine ⟨cp_of fun q hq => cp_mem h1 (hp.mem_iff.mpr (List.mem_append_left _ hq)), cd_iff.mpr ⟨?_, fun q hq => h2.2 q (hp.mem_iff.mpr (List.mem_append_left _ hq))⟩⟩
  have h3 := ((hp.map (·.1)).nodup_iff).mp h2.1
  rw [List.map_append] at h3
  exact (List.nodup_append.mp h3).1
theorem Wl.eq {g : Gv} {A : Nat → Prop} {L L2 : List va_W} {H : Heap} (h : Wl g A L H) (hp : L.flatten = L2.flatten) : Wl g A L2 H := h.to (R := []) (by rw [List.append_nil, hp])
/-- chunks taken out by their places, one after another; and what is left -/
def xt : List va_W → List Nat → List va_W × List va_W
  | L, [] => ([], L)
  | L, k :: ks => match L[k]? with
    | some c => (c :: (xt (L.eraseIdx k) ks).1, (xt (L.eraseIdx k) ks).2)
    | none => xt L ks
theorem xt_one : ∀ (L : List va_W) (k : Nat) (c : va_W), L[k]? = some c → L.Perm (c :: L.eraseIdx k)
  | [], k, c, h => by simp at h
  | a :: t, 0, c, h => by
    rw [List.getElem?_cons_zero] at h
    cases h
    exact List.Perm.refl _
  | a :: t, k + 1, c, h => by
    rw [List.getElem?_cons_succ] at h
    exact ((xt_one t k c h).cons a).trans (List.Perm.swap c a _)
theorem xt_perm : ∀ (ks : List Nat) (L : List va_W), L.Perm ((xt L ks).1 ++ (xt L ks).2)
  | [], L => List.Perm.refl _
  | k :: ks, L => by
    unfold xt
    cases h : L[k]? with
    | none => exact xt_perm ks L
    | some c => exact (xt_one L k c h).trans ((xt_perm ks (L.eraseIdx k)).cons c)
theorem xt_fl {L Lc Lr : List va_W} {ks : List Nat} (h : xt L ks = (Lc, Lr)) : L.flatten.Perm (Lc.flatten ++ Lr.flatten) := by
  have h1 := (xt_perm ks L).flatten
  rw [h, List.flatten_append] at h1
  exact h1
theorem Wl.xt {g : Gv} {A : Nat → Prop} {L Lc Lr : List va_W} {ks : List Nat} {H : Heap} (h : Wl g A L H) (hx : xt L ks = (Lc, Lr)) : Wl g A (Lc ++ Lr) H := h.to (R := []) (by rw [List.append_nil, List.flatten_append]; exact xt_fl hx)
theorem Wl.left {g : Gv} {A : Nat → Prop} {L1 L2 : List va_W} {H : Heap} (h : Wl g A (L1 ++ L2) H) : Wl g A L1 H := h.to (R := L2.flatten) (by rw [List.flatten_append])
theorem Wl.right {g : Gv} {A : Nat → Prop} {L1 L2 : List va_W} {H : Heap} (h : Wl g A (L1 ++ L2) H) : Wl g A L2 H := h.to (R := L1.flatten) (by rw [List.flatten_append]; exact List.perm_append_comm)
theorem Wl.any {g : Gv} {A B : Nat → Prop} {L : List va_W} {H : Heap} (h : Wl g A L H) (hAB : ∀ q ∈ L.flatten, A q.1 → B q.1) : Wl g B L H := ⟨h.1, cd_iff.mpr ⟨(cd_iff.mp h.2).1, fun q hq => hAB q hq ((cd_iff.mp h.2).2 q hq)⟩⟩
theorem vaA_iff {ws : va_W} {sz q : Nat} : va_A ws sz q ↔ (∃ e, (q, e) ∈ ws) ∨ sz ≤ q := by
  constructor
  · rintro (⟨k, e, h⟩ | h)
    · exact Or.inl ⟨e, List.mem_of_getElem? h⟩
    · exact Or.inr h
  · rintro (⟨e, h⟩ | h)
    · obtain ⟨k, hk⟩ := List.getElem?_of_mem h
      exact Or.inl ⟨k, e, hk⟩
    · exact Or.inr h
/-- behind a call: the callee's new chunks beside those that it had not -/
theorem Wl.join {g : Gv} {A0 : Nat → Prop} {Lc Lr L1 : List va_W} {H H1 : Heap} (h : Wl g A0 (Lc ++ Lr) H) (hF : ∀ q, va_A Lc.flatten H.size q → A0 q) (hk : ∀ q : Nat, q < H.size → ¬ va_A Lc.flatten H.size q → H1[q]? = H[q]?) (h1 : Wl g (va_A Lc.flatten H.size) L1 H1) : Wl g A0 (Lr ++ L1) H1 := by
  obtain ⟨hP, hD⟩ := h
  obtain ⟨hP1, hD1⟩ := h1
  rw [List.flatten_append] at hP hD
  rw [cd_iff] at hD hD1
  have hap : ∀ q ∈ Lr.flatten, q.1 < H.size ∧ ¬ va_A Lc.flatten H.size q.1 := by
    intro q hq
    have hlt := (cp_mem hP (List.mem_append_right _ hq)).lt
    refine ⟨hlt, fun hv => ?_⟩
    rcases vaA_iff.mp hv with ⟨e, he⟩ | he
    · have hn := hD.1
      rw [List.map_append, List.nodup_append] at hn
      exact hn.2.2 q.1 (List.mem_map.mpr ⟨(q.1, e), he, rfl⟩) q.1 (List.mem_map.mpr ⟨q, hq, rfl⟩) rfl
    · omega
  refine ⟨?_, ?_⟩
  · rw [List.flatten_append]
    refine cp_of fun q hq => ?_
    rcases List.mem_append.mp hq with h | h
    · obtain ⟨a, b⟩ := hap q h
      exact (cp_mem hP (List.mem_append_right _ h)).kept (hk q.1 a b)
    · exact cp_mem hP1 h
  · rw [List.flatten_append, cd_iff]
    refine ⟨?_, fun q hq => ?_⟩
    · rw [List.map_append, List.nodup_append]
      have hn := hD.1
      rw [List.map_append, List.nodup_append] at hn
      refine ⟨hn.2.1, hD1.1, fun a ha b hb hab => ?_⟩
      obtain ⟨q, hq, rfl⟩ := List.mem_map.mp ha
      obtain ⟨q2, hq2, rfl⟩ := List.mem_map.mp hb
      exact (hap q hq).2 (by rw [hab]; exact hD1.2 q2 hq2)
    · rcases List.mem_append.mp hq with h | h
      · exact hD.2 q (List.mem_append_right _ h)
      · exact hF _ (hD1.2 q h)
/-! locals -/
def lvs (ls : Array Slot) (lv : List (Option Value)) : Prop := ls.size = lv.length ∧ lv_wf ls ∧ ∀ (i : Nat) (v : Value), lv[i]? = some (some v) → ls[i]? = some (.val v)
def lprs : Nat → List (Option Value) → List (Nat × Value)
  | _, [] => []
  | n, some v :: t => (n, v) :: lprs (n + 1) t
  | n, none :: t => lprs (n + 1) t
theorem lprs_mem : ∀ (lv : List (Option Value)) (n i : Nat) (v : Value), (i, v) ∈ lprs n lv ↔ n ≤ i ∧ lv[i - n]? = some (some v)
  | [], n, i, v => by simp [lprs]
  | none :: t, n, i, v => by
    rw [lprs, lprs_mem t (n + 1) i v]
    constructor
    · rintro ⟨h1, h2⟩
      refine ⟨by omega, ?_⟩
      rw [show i - n = (i - (n + 1)) + 1 by omega, List.getElem?_cons_succ]
      exact h2
    · rintro ⟨h1, h2⟩
      rcases Nat.eq_or_lt_of_le h1 with h | h
      · subst h
        simp at h2
      · refine ⟨h, ?_⟩
        rw [show i - n = (i - (n + 1)) + 1 by omega, List.getElem?_cons_succ] at h2
        exact h2
  | some w :: t, n, i, v => by
    rw [lprs, List.mem_cons, lprs_mem t (n + 1) i v]
    constructor
    · rintro (h | ⟨h1, h2⟩)
      · cases h
        exact ⟨Nat.le_refl _, by simp⟩
      · refine ⟨by omega, ?_⟩
        rw [show i - n = (i - (n + 1)) + 1 by omega, List.getElem?_cons_succ]
        exact h2
    · rintro ⟨h1, h2⟩
      rcases Nat.eq_or_lt_of_le h1 with h | h
      · subst h
        simp at h2
        left; rw [h2]
      · right
        refine ⟨h, ?_⟩
        rw [show i - n = (i - (n + 1)) + 1 by omega, List.getElem?_cons_succ] at h2
        exact h2
theorem lvs.has {ls : Array Slot} {lv : List (Option Value)} (h : lvs ls lv) : lv_has ls lv.length (lprs 0 lv) := ⟨h.1, h.2.1, fun q hq => h.2.2 q.1 q.2 (by have := (lprs_mem lv 0 q.1 q.2).mp hq; simpa using this.2)⟩
def lclr (x : Option Value) : Option Value := match x with
  | some v => if v.category = 2 then none else some v
  | none => none
/-- a word stored at i -/
def lst1 : List (Option Value) → Nat → Value → List (Option Value)
  | [], _, _ => []
  | _ :: t, 0, v => some v :: t
  | x :: y :: t, 1, v => lclr x :: some v :: t
  | [x], 1, _ => [x]
  | x :: t, i + 2, v => x :: lst1 t (i + 1) v
/-- two words stored at i -/
def lst2 : List (Option Value) → Nat → Value → List (Option Value)
  | [], _, _ => []
  | _ :: _ :: t, 0, v => some v :: none :: t
  | [x], 0, _ => [x]
  | x :: _ :: _ :: t, 1, v => lclr x :: some v :: none :: t
  | [x, y], 1, _ => [x, y]
  | [x], 1, _ => [x]
  | x :: t, i + 2, v => x :: lst2 t (i + 1) v
theorem lst1_len : ∀ (lv : List (Option Value)) (i : Nat) (v : Value), (lst1 lv i v).length = lv.length
  | [], 0, v => rfl
  | [], 1, v => rfl
  | [], i + 2, v => rfl
  | _ :: t, 0, v => rfl
  | x :: y :: t, 1, v => rfl
  | [x], 1, _ => rfl
  | x :: t, i + 2, v => by simp only [lst1, List.length_cons]; rw [lst1_len t (i + 1) v]
theorem lst2_len : ∀ (lv : List (Option Value)) (i : Nat) (v : Value), (lst2 lv i v).length = lv.length
  | [], 0, v => rfl
  | [], 1, v => rfl
  | [], i + 2, v => rfl
  | _ :: _ :: t, 0, v => rfl
  | [x], 0, v => rfl
  | x :: y :: z :: t, 1, v => rfl
  | [x, y], 1, _ => rfl
  | [x], 1, _ => rfl
  | x :: t, i + 2, v => by simp only [lst2, List.length_cons]; rw [lst2_len t (i + 1) v]
theorem lclr_some {x : Option Value} {v : Value} (h : lclr x = some v) : x = some v ∧ v.category ≠ 2 := by
  cases x with
  | none => cases h
  | some w =>
    simp only [lclr] at h
    split at h
    · cases h
    · cases h; exact ⟨rfl, by assumption⟩
theorem lst1_at : ∀ (lv : List (Option Value)) (i : Nat) (v : Value) (j : Nat) (w : Value), i < lv.length → (lst1 lv i v)[j]? = some (some w) → (j = i ∧ w = v) ∨ (j ≠ i ∧ lv[j]? = some (some w) ∧ ¬ (j + 1 = i ∧ w.category = 2))
  | _ :: t, 0, v, 0, w, _, h => by simp [lst1] at h; exact Or.inl ⟨rfl, h.symm⟩
  | _ :: t, 0, v, j + 1, w, _, h => by
    simp only [lst1, List.getElem?_cons_succ] at h
    exact Or.inr ⟨by omega, by rw [List.getElem?_cons_succ]; exact h, by omega⟩
  | x :: y :: t, 1, v, 0, w, _, h => by
    simp only [lst1, List.getElem?_cons_zero, Option.some.injEq] at h
    obtain ⟨h1, h2⟩ := lclr_some h
    exact Or.inr ⟨by omega, by rw [List.getElem?_cons_zero, h1], fun q => h2 q.2⟩
  | x :: y :: t, 1, v, 1, w, _, h => by simp [lst1] at h; exact Or.inl ⟨rfl, h.symm⟩
  | x :: y :: t, 1, v, j + 2, w, _, h => by
    simp only [lst1, List.getElem?_cons_succ] at h
    exact Or.inr ⟨by omega, by rw [List.getElem?_cons_succ, List.getElem?_cons_succ]; exact h, by omega⟩
  | [x], 1, v, j, w, hl, h => by simp at hl
  | x :: t, i + 2, v, 0, w, _, h => by
    simp only [lst1, List.getElem?_cons_zero, Option.some.injEq] at h
    exact Or.inr ⟨by omega, by rw [List.getElem?_cons_zero, h], by omega⟩
  | x :: t, i + 2, v, j + 1, w, hl, h => by
    simp only [lst1, List.getElem?_cons_succ] at h
    rcases lst1_at t (i + 1) v j w (by simp at hl; omega) h with ⟨h1, h2⟩ | ⟨h1, h2, h3⟩
    · exact Or.inl ⟨by omega, h2⟩
    · exact Or.inr ⟨by omega, by rw [List.getElem?_cons_succ]; exact h2, fun q => h3 ⟨by omega, q.2⟩⟩
theorem lst2_at : ∀ (lv : List (Option Value)) (i : Nat) (v : Value) (j : Nat) (w : Value), i + 1 < lv.length → (lst2 lv i v)[j]? = some (some w) → (j = i ∧ w = v) ∨ (j ≠ i ∧ j ≠ i + 1 ∧ lv[j]? = some (some w) ∧ ¬ (j + 1 = i ∧ w.category = 2))
  | _ :: _ :: t, 0, v, 0, w, _, h => by simp [lst2] at h; exact Or.inl ⟨rfl, h.symm⟩
  | _ :: _ :: t, 0, v, 1, w, _, h => by simp [lst2] at h
  | _ :: _ :: t, 0, v, j + 2, w, _, h => by
    simp only [lst2, List.getElem?_cons_succ] at h
    exact Or.inr ⟨by omega, by omega, by rw [List.getElem?_cons_succ, List.getElem?_cons_succ]; exact h, by omega⟩
  | [x], 0, v, j, w, hl, h => by simp at hl
  | x :: y :: z :: t, 1, v, 0, w, _, h => by
    simp only [lst2, List.getElem?_cons_zero, Option.some.injEq] at h
    obtain ⟨h1, h2⟩ := lclr_some h
    exact Or.inr ⟨by omega, by omega, by rw [List.getElem?_cons_zero, h1], fun q => h2 q.2⟩
  | x :: y :: z :: t, 1, v, 1, w, _, h => by simp [lst2] at h; exact Or.inl ⟨rfl, h.symm⟩
  | x :: y :: z :: t, 1, v, 2, w, _, h => by simp [lst2] at h
  | x :: y :: z :: t, 1, v, j + 3, w, _, h => by
    simp only [lst2, List.getElem?_cons_succ] at h
    exact Or.inr ⟨by omega, by omega, by rw [List.getElem?_cons_succ, List.getElem?_cons_succ, List.getElem?_cons_succ]; exact h, by omega⟩
  | [x, y], 1, v, j, w, hl, h => by simp at hl
  | [x], 1, v, j, w, hl, h => by simp at hl
  | x :: t, i + 2, v, 0, w, _, h => by
    simp only [lst2, List.getElem?_cons_zero, Option.some.injEq] at h
    exact Or.inr ⟨by omega, by omega, by rw [List.getElem?_cons_zero, h], by omega⟩
  | x :: t, i + 2, v, j + 1, w, hl, h => by
    simp only [lst2, List.getElem?_cons_succ] at h
    rcases lst2_at t (i + 1) v j w (by simp at hl; omega) h with ⟨h1, h2⟩ | ⟨h1, h2, h3, h4⟩
    · exact Or.inl ⟨by omega, h2⟩
    · exact Or.inr ⟨by omega, by omega, by rw [List.getElem?_cons_succ]; exact h3, fun q => h4 ⟨by omega, q.2⟩⟩
theorem lvs_st1 {ls : Array Slot} {lv : List (Option Value)} {i : Nat} {v : Value} (hi : i < lv.length) (h : lv_has ls lv.length ((i, v) :: (lprs 0 lv).filter (fun q => !(q.1 == i) && !(q.1 + 1 == i && q.2.category == 2)))) : lvs ls (lst1 lv i v) := by
  refine ⟨h.1.trans (lst1_len lv i v).symm, h.2.1, fun j w hj => ?_⟩
  rcases lst1_at lv i v j w hi hj with ⟨h1, h2⟩ | ⟨h1, h2, h3⟩
  · rw [h1, h2]; exact h.2.2 (i, v) List.mem_cons_self
  · refine h.2.2 (j, w) (List.mem_cons_of_mem _ (List.mem_filter.mpr ⟨(lprs_mem lv 0 j w).mpr ⟨Nat.zero_le _, by simpa using h2⟩, ?_⟩))
    simp only [Bool.and_eq_true, Bool.not_eq_true', beq_eq_false_iff_ne, Bool.and_eq_false_iff, ne_eq]
    refine ⟨h1, ?_⟩
    by_cases hq : j + 1 = i
    · exact Or.inr (fun q => h3 ⟨hq, q⟩)
    · exact Or.inl hq
theorem lvs_st2 {ls : Array Slot} {lv : List (Option Value)} {i : Nat} {v : Value} (hi : i + 1 < lv.length) (h : lv_has ls lv.length ((i, v) :: (lprs 0 lv).filter (fun q => !(q.1 == i) && (!(q.1 == i + 1) && !(q.1 + 1 == i && q.2.category == 2))))) : lvs ls (lst2 lv i v) := by
  refine ⟨h.1.trans (lst2_len lv i v).symm, h.2.1, fun j w hj => ?_⟩
  rcases lst2_at lv i v j w hi hj with ⟨h1, h2⟩ | ⟨h1, h2, h3, h4⟩
  · rw [h1, h2]; exact h.2.2 (i, v) List.mem_cons_self
  · refine h.2.2 (j, w) (List.mem_cons_of_mem _ (List.mem_filter.mpr ⟨(lprs_mem lv 0 j w).mpr ⟨Nat.zero_le _, by simpa using h3⟩, ?_⟩))
    simp only [Bool.and_eq_true, Bool.not_eq_true', beq_eq_false_iff_ne, Bool.and_eq_false_iff, ne_eq]
    refine ⟨h1, h2, ?_⟩
    by_cases hq : j + 1 = i
    · exact Or.inr (fun q => h4 ⟨hq, q⟩)
    · exact Or.inl hq
/-! the judgement -/
abbrev Kx : Type := Program × Launch × Env × Room × State × MethodId × Array Value × List Frame × Method × Code × (Nat → Prop) × Nat × Nat × (State → Prop)
/-- from pc, with these locals, this stack, these chunks, and room for kc more cells of ks more slots, the machine comes to where the method's end is owed -/
def Go (g : Gv) (κ : Kx) (pc : Nat) (lv : List (Option Value)) (st : List Value) (L : List va_W) (kc ks : Nat) : Prop := match κ with
  | (p, l, e, R, s, m, args, below, meth, c, A, mc, ms, Q) => ∀ (H : Heap) (locs : List Loc) (cells slots : Nat) (ls : Array Slot), lvs ls lv → cells + kc ≤ mc → slots + ks ≤ ms → Wl g A L H → va_S A s.heap H locs → W p l e R s m args below meth c H locs cells slots Q (F0 m pc ls st)
/-- the same with a thing of the class E thrown over the frame -/
def Gx (g : Gv) (κ : Kx) (E : String) (pc : Nat) (lv : List (Option Value)) (st : List Value) (L : List va_W) (kc ks : Nat) : Prop := match κ with
  | (p, l, e, R, s, m, args, below, meth, c, A, mc, ms, Q) => ∀ (H : Heap) (locs : List Loc) (cells slots : Nat) (ls : Array Slot) (q : Addr) (ce : Cell), lvs ls lv → cells + kc ≤ mc → slots + ks ≤ ms → Wl g A L H → va_S A s.heap H locs → H[q]? = some ce → ce.vm = .none → s.vm.findClass E = some ce.cls → vx_W p l e R s m args below meth c H locs cells slots Q (F0 m pc ls st) q
/-- what stays the same all through a method -/
def Fx (g : Gv) (κ : Kx) (own : String) (cc : ByteArray) (nL : Nat) (ret : Option FieldType) (lvl : Nat) : Prop := match κ with
  | (p, l, e, R, s, m, args, below, meth, c, A, mc, ms, Q) => (p.tables.exec = Jvm.exec ∧ c.code = cc ∧ c.maxLocals = nL ∧ s.vm.findClass own = some m.cls ∧ ∀ w ∈ lw_all, w.before args s = true) ∧ (meth.sig.returnType = ret ∧ meth.locks = false) ∧ (l.stackTraces = false ∧ Ev g A s s.heap ∧ ∀ q, s.heap.size ≤ q → A q) ∧ lvl + 1 ≤ R.frames ∧ 64 * (lvl + 1) ≤ R.locals ∧ mc ≤ R.cells ∧ ms ≤ R.slots
def Pn (g : Gv) (A : Nat → Prop) (post : Option Value → List va_W → Prop) : Array Value → State → Outcome → State → Prop := fun _ st oc t => ∃ (v : Option Value) (L : List va_W), oc = .returned v ∧ post v L ∧ Wl g A L t.heap ∧ va_F A st t
def Px (g : Gv) (A : Nat → Prop) (xp : String → List va_W → Prop) : String → State → State → Prop := fun E st t => ∃ L : List va_W, xp E L ∧ Wl g A L t.heap ∧ va_F A st t
/-- a method's end -/
def Nd (g : Gv) (κ : Kx) (post : Option Value → List va_W → Prop) (xp : String → List va_W → Prop) : Prop := match κ with
  | (p, l, e, R, s, m, args, below, meth, c, A, mc, ms, Q) => Q = vx_MQ below (Pn g A post) (Px g A xp) args s mc ms A
/-- its table of handlers -/
def Tb (κ : Kx) (tab : List ExceptionTableEntry) : Prop := match κ with
  | (p, l, e, R, s, m, args, below, meth, c, A, mc, ms, Q) => c.exceptionTable.toList = tab
def Rm (lvl mc ms : Nat) : Room := { frames := lvl + 1, cells := mc, slots := ms, locals := 64 * (lvl + 1) }
def Pre (g : Gv) (args : List Value) (L : List va_W) (sz : Nat) : Array Value → State → Prop := va_Pc args (fun U => U.heap.size = sz ∧ Ev g (va_A L.flatten sz) U U.heap ∧ Wl g (fun _ => True) L U.heap)
/-- A CONTRACT: called with args in a heap that holds the chunks L, with room for mc cells of ms slots, y returns v and leaves chunks with 'post v', or throws E and leaves chunks with 'xp E'; nothing else is changed -/
def Ct (g : Gv) (y : MethodName) (ws : List Cond) (lvl mc ms : Nat) (args : List Value) (L : List va_W) (post : Option Value → List va_W → Prop) (xp : String → List va_W → Prop) : Prop :=
  ∀ (l : Launch) (sz : Nat), l.stackTraces = false → vx_Met l y ws (Rm lvl mc ms) (Pre g args L sz) (Pn g (va_A L.flatten sz) post) (Px g (va_A L.flatten sz) xp) mc ms (va_A L.flatten sz)
def noX : String → List va_W → Prop := fun _ _ => False
theorem Pre.blind {g : Gv} {args : List Value} {L : List va_W} {sz : Nat} : FrameBlind (Pre g args L sz) := by
  rintro a U g' mk ⟨h1, h2, h3, h4⟩
  exact ⟨h1, h2, h3.go (State.WarmedH.refl U) (fun _ _ _ => rfl) (fun _ h => h), h4⟩
def lvEntry : List Value → List (Option Value)
  | [] => []
  | v :: t => if v.category = 2 then some v :: none :: lvEntry t else some v :: lvEntry t
theorem lvEntry_args : ∀ (vs : List Value) (n : Nat), lprs n (lvEntry vs) = lv_args n vs := by
  intro vs
  induction vs with
  | nil => intro n; rfl
  | cons v t ih =>
    intro n
    by_cases h : v.category = 2
    · simp only [lvEntry, lv_args, h, if_true, lprs]
      rw [ih]
    · simp only [lvEntry, lv_args, h, if_false, lprs]
      rw [ih]
theorem lprs_pad : ∀ (a : List (Option Value)) (n k : Nat), lprs n (a ++ List.replicate k none) = lprs n a := by
  intro a
  induction a with
  | nil =>
    intro n k
    induction k generalizing n with
    | zero => rfl
    | succ k ih => rw [List.replicate_succ]; exact ih (n + 1)
  | cons x t ih =>
    intro n k
    cases x with
    | none => exact ih (n + 1) k
    | some v => show (n, v) :: lprs (n + 1) (t ++ List.replicate k none) = _; rw [ih]; rfl
theorem lvs_of_prs {ls : Array Slot} {lv : List (Option Value)} (h : lv_has ls lv.length (lprs 0 lv)) : lvs ls lv := ⟨h.1, h.2.1, fun i v hi => h.2.2 (i, v) ((lprs_mem lv 0 i v).mpr ⟨Nat.zero_le _, by simpa using hi⟩)⟩
/-- A METHOD's CONTRACT out of its walk -/
theorem Ct.of {g : Gv} {y : MethodName} (own : String) {cc : ByteArray} {maxL : Nat} {ret : Option FieldType} {lvl mc ms : Nat} {args : List Value} {L : List va_W} {post : Option Value → List va_W → Prop} {xp : String → List va_W → Prop} (lv0 : List (Option Value)) (hown : y.cls = own) (hy : plainName y.cls = true) (hn : lv0.length = maxL) (hs : (lg_sl args).length ≤ maxL) (hl : lprs 0 lv0 = lv_args 0 args)
    (body : ∀ κ : Kx, Fx g κ own cc maxL ret lvl → Nd g κ post xp → Tb κ [] → Go g κ 0 lv0 [] L mc ms) : Ct g y (ws_ y cc maxL ret) lvl mc ms args L post xp := by
  intro l sz hst
  refine vx_ofW (cc := cc) (maxL := maxL) (ret := ret) hy rfl ?_
  intro p e s m a below meth c s₁ B hml htab hv
  obtain ⟨rfl, hsz, hE, hW⟩ := hv
  subst hsz
  have hts := atoms_spec (ws := ws_ y cc maxL ret) B.pre
  have hgo := body (p, l, e, Rm lvl mc ms, s, m, args.toArray, below, meth, c, va_A L.flatten s.heap.size, mc, ms, vx_MQ below (Pn g (va_A L.flatten s.heap.size) post) (Px g (va_A L.flatten s.heap.size) xp) args.toArray s mc ms (va_A L.flatten s.heap.size))
    ⟨⟨B.exec, B.bytes, hml, by rw [← hown]; exact findClass_of_methodNamed B.named, fun w h => hts w (List.mem_cons_of_mem _ h)⟩, ⟨B.returns, B.notSynchronized⟩, ⟨hst, hE, fun q h => Or.inr h⟩, Nat.le_refl _, Nat.le_refl _, Nat.le_refl _, Nat.le_refl _⟩ rfl (List.eq_nil_iff_forall_not_mem.mpr htab)
  rw [lg_entry_eq]
  have hl0 := lv_entry args (n := maxL) hs
  refine hgo s.heap [] 0 0 _ (lvs_of_prs ?_) (by omega) (by omega) (hW.any fun q hq _ => vaA_iff.mpr (Or.inl ⟨q.2, hq⟩)) va_S.rf
  rw [hn, hl]
  exact hl0
theorem fl_at : ∀ {L : List va_W} {k : Nat} {x : Nat × va_E}, L[k]? = some [x] → ∃ j, L.flatten[j]? = some x ∧ ∀ y, L.flatten.set j y = (L.set k [y]).flatten
  | [], k, x, h => by simp at h
  | c :: t, 0, x, h => by
    rw [List.getElem?_cons_zero] at h
    cases h
    exact ⟨0, rfl, fun y => rfl⟩
  | c :: t, k + 1, x, h => by
    rw [List.getElem?_cons_succ] at h
    obtain ⟨j, h1, h2⟩ := fl_at h
    refine ⟨c.length + j, ?_, fun y => ?_⟩
    · rw [List.flatten_cons, List.getElem?_append_right (by omega)]
      simpa using h1
    · rw [List.flatten_cons, List.set_append_right _ _ (by omega), List.set_cons_succ, List.flatten_cons, ← h2 y]
      simp
theorem fl_push (L : List va_W) (x : Nat × va_E) : (L ++ [[x]]).flatten = L.flatten ++ [x] := by simp
