set_option maxRecDepth 100000
/-! ===== contracts over the same cells otherwise cut; things known by their cells in a chunk; lists of things ===== -/
theorem Ct.cq {g : Gv} {y : MethodName} {ws : List Cond} {lvl mc ms : Nat} {args : List Value} {L L2 : List va_W} {post post2 : Option Value → List va_W → Prop} {xp xp2 : String → List va_W → Prop} (h : Ct g y ws lvl mc ms args L post xp) (hL : L2.flatten.Perm L.flatten) (hp : ∀ v R, post v R → ∃ (R2 : List va_W) (J : va_W), R.flatten.Perm (R2.flatten ++ J) ∧ post2 v R2) (hx : ∀ E R, xp E R → ∃ (R2 : List va_W) (J : va_W), R.flatten.Perm (R2.flatten ++ J) ∧ xp2 E R2) : Ct g y ws lvl mc ms args L2 post2 xp2 := by
  intro l sz hst
  have hA : va_A L2.flatten sz = va_A L.flatten sz := by
    funext q
    refine propext ?_
    rw [vaA_iff, vaA_iff]
    constructor
    · rintro (⟨e, he⟩ | h)
      · exact Or.inl ⟨e, hL.mem_iff.mp he⟩
      · exact Or.inr h
    · rintro (⟨e, he⟩ | h)
      · exact Or.inl ⟨e, hL.mem_iff.mpr he⟩
      · exact Or.inr h
  have hz := h l sz hst
  unfold Pre
  rw [hA]
  refine Jvm.Free.MetFree.mono hz (fun a s hq => ?_) (fun _ _ _ _ _ h => h) (fun a s o t hq h0 => ?_)
  · obtain ⟨h1, h2, h3, h4⟩ := hq
    exact ⟨h1, h2, h3, h4.to (R := []) (by rw [List.append_nil]; exact hL)⟩
  · rcases h0 with ⟨⟨v, R, e1, e2, e3, e4⟩, hf⟩ | ⟨q, ho, E, ce, Lc, ⟨R, e2, e3, e4⟩, hr⟩
    · obtain ⟨R2, J, z1, z2⟩ := hp v R e2
      exact Or.inl ⟨⟨v, R2, e1, z2, e3.to z1, e4⟩, hf⟩
    · obtain ⟨R2, J, z1, z2⟩ := hx E R e2
      exact Or.inr ⟨q, ho, E, ce, Lc, ⟨R2, z2, e3.to z1, e4⟩, hr⟩
theorem noX_cq {xp2 : String → List va_W → Prop} : ∀ E R, noX E R → ∃ (R2 : List va_W) (J : va_W), R.flatten.Perm (R2.flatten ++ J) ∧ xp2 E R2 := fun _ _ h => False.elim h
theorem g_stk {g : Gv} {κ : Kx} {pc : Nat} {lv : List (Option Value)} {st : List Value} {L : List va_W} {kc ks : Nat} {x y : Value} (h : x = y) (kk : Go g κ pc lv (y :: st) L kc ks) : Go g κ pc lv (x :: st) L kc ks := by rw [h]; exact kk
theorem g_lvs {g : Gv} {κ : Kx} {pc : Nat} {lv lv2 : List (Option Value)} {st st2 : List Value} {L : List va_W} {kc ks : Nat} (h : lv = lv2) (h2 : st = st2) (kk : Go g κ pc lv2 st2 L kc ks) : Go g κ pc lv st L kc ks := by rw [h, h2]; exact kk
/-- a chunk that P holds of lies in W -/
def Sub (P : va_W → Prop) (W : va_W) : Prop := ∃ w R : va_W, W.Perm (w ++ R) ∧ P w
theorem Sub.self {P : va_W → Prop} {w : va_W} (h : P w) : Sub P w := ⟨w, [], by rw [List.append_nil], h⟩
theorem Sub.mono {P Q : va_W → Prop} {W : va_W} (h : Sub P W) (hq : ∀ w, P w → Q w) : Sub Q W := by
  obtain ⟨w, R, h1, h2⟩ := h
  exact ⟨w, R, h1, hq w h2⟩
theorem fl_pick {L : List va_W} {k : Nat} {c : va_W} (h : L[k]? = some c) : L.flatten.Perm (c ++ (L.eraseIdx k).flatten) := by
  have z := (xt_one L k c h).flatten
  rw [List.flatten_cons] at z
  exact z
theorem Sub.in {P : va_W → Prop} {W w R c : va_W} {L : List va_W} (hp : W.Perm (w ++ R)) (hw : w = L.flatten) (k : Nat) (hk : L[k]? = some c) (h : P c) : Sub P W := by
  refine ⟨c, (L.eraseIdx k).flatten ++ R, ?_, h⟩
  rw [hw] at hp
  refine hp.trans ?_
  rw [← List.append_assoc]
  exact (fl_pick hk).append_right R
theorem Sub.up {P : va_W → Prop} {W w R : va_W} (hp : W.Perm (w ++ R)) (h : Sub P w) : Sub P W := by
  obtain ⟨c, R2, h1, h2⟩ := h
  refine ⟨c, R2 ++ R, hp.trans ?_, h2⟩
  rw [← List.append_assoc]
  exact h1.append_right R
theorem Sub.hm {P : va_W → Prop} {W : va_W} {a ci : Nat} (h : Sub P W) (f : ∀ w, P w → ∃ fs, (a, .inr (ci, fs)) ∈ w) : ∃ fs, (a, .inr (ci, fs)) ∈ W := by
  obtain ⟨w, R, h1, h2⟩ := h
  obtain ⟨fs, h3⟩ := f w h2
  exact ⟨fs, h1.mem_iff.mpr (List.mem_append_left _ h3)⟩
theorem sub_c {W R : va_W} {L : List va_W} {x : Nat × va_E} (hp : W.Perm (L.flatten ++ R)) (k : Nat) (hk : L[k]? = some [x]) : x ∈ W :=
  hp.mem_iff.mpr (List.mem_append_left _ (List.mem_flatten.mpr ⟨[x], List.mem_of_getElem? hk, List.mem_cons_self⟩))
theorem fl_set : ∀ {L : List va_W} (k : Nat) {w W R : va_W}, L[k]? = some w → W.Perm (w ++ R) → (L.set k W).flatten.Perm (L.flatten ++ R)
  | [], k, w, W, R, h, hp => by simp at h
  | c :: t, 0, w, W, R, h, hp => by
    rw [List.getElem?_cons_zero] at h
    cases h
    rw [List.set_cons_zero, List.flatten_cons, List.flatten_cons, List.append_assoc]
    refine (hp.append_right _).trans ?_
    rw [List.append_assoc]
    exact (List.perm_append_comm).append_left c
  | c :: t, k + 1, w, W, R, h, hp => by
    rw [List.getElem?_cons_succ] at h
    rw [List.set_cons_succ, List.flatten_cons, List.flatten_cons, List.append_assoc]
    exact (fl_set k h hp).append_left c
theorem sub_in {L L2 : List va_W} {W w R : va_W} (k : Nat) (h : L.set k W = L2) (hp : W.Perm (w ++ R)) (hk : L[k]? = some w) : L2.flatten.Perm (L.flatten ++ ([R] : List va_W).flatten) := by
  subst h
  rw [show ([R] : List va_W).flatten = R by simp]
  exact fl_set k hk hp
theorem sub_out {L L2 : List va_W} {W w R : va_W} (k : Nat) (h : L.set k W = L2) (hp : W.Perm (w ++ R)) (hk : L[k]? = some w) : ([R] ++ L).flatten.Perm (L2.flatten ++ []) := by
  subst h
  rw [List.append_nil, List.flatten_append, show ([R] : List va_W).flatten = R by simp]
  exact List.perm_append_comm.trans (fl_set k hk hp).symm
/-- a contract that leaves alone the rest of a chunk -/
theorem Ct.lift {g : Gv} {y : MethodName} {ws : List Cond} {lvl mc ms : Nat} {args : List Value} {L L2 : List va_W} {post post2 : Option Value → List va_W → Prop} (h : Ct g y ws lvl mc ms args L post noX) (Lr : List va_W) (hL : L2.flatten.Perm (L.flatten ++ Lr.flatten)) (hp : ∀ v R, post v R → ∃ (R2 : List va_W) (J : va_W), (Lr ++ R).flatten.Perm (R2.flatten ++ J) ∧ post2 v R2) : Ct g y ws lvl mc ms args L2 post2 noX := by
  intro l sz hst
  have hz := h l sz hst
  have hA : ∀ q, va_A L.flatten sz q → va_A L2.flatten sz q := by
    intro q hq
    rcases vaA_iff.mp hq with ⟨e, he⟩ | he
    · exact vaA_iff.mpr (Or.inl ⟨e, hL.mem_iff.mpr (List.mem_append_left _ he)⟩)
    · exact vaA_iff.mpr (Or.inr he)
  refine Jvm.Free.MetFree.mono hz (fun a s hq => ?_) (fun _ _ _ _ _ h => h) (fun a s o t hq h0 => ?_)
  · obtain ⟨h1, h2, h3, h4⟩ := hq
    exact ⟨h1, h2, h3.go (State.WarmedH.refl s) (fun _ _ _ => rfl) hA, h4.to hL⟩
  · obtain ⟨h1, h2, h3, h4⟩ := hq
    subst h2
    rcases h0 with ⟨⟨v, R, e1, e2, e3, e4⟩, Lw, hf, hf3⟩ | ⟨q, ho, E, ce, Lc, ⟨R, e2, e3, e4⟩, hr⟩
    · obtain ⟨R2, J, z1, z2⟩ := hp v R e2
      refine Or.inl ⟨⟨v, R2, e1, z2, ?_, ⟨e4.1, fun q i1 i2 => e4.2 q i1 fun z => i2 (hA q z)⟩⟩, Lw, hf, fun q hq => hA _ (hf3 q hq)⟩
      · have h5 : Wl g (va_A L2.flatten s.heap.size) (L ++ Lr) s.heap := (h4.any fun q hq _ => vaA_iff.mpr (Or.inl ⟨q.2, hq⟩)).to (R := []) (by rw [List.append_nil, List.flatten_append]; exact hL)
        exact (h5.join hA e4.2 e3).to z1
    · exact False.elim e2
/-- the Integer at a holds v; it lies in the chunk w, or outside -/
def BoxAt (g : Gv) (a : Nat) (v : Int32) (w : va_W) : Prop := (a, .inr (35, [.int v])) ∈ w ∨ ∃ k : Nat, k < 256 ∧ a = gA g (1000 + k) ∧ v = vb_c k
theorem BoxAt.mono {g : Gv} {a : Nat} {v : Int32} {w w2 : va_W} (h : BoxAt g a v w) (hw : ∀ x ∈ w, x ∈ w2) : BoxAt g a v w2 := h.elim (fun h => Or.inl (hw _ h)) Or.inr
theorem BoxAt.kI {g : Gv} {k : Nat} {w : va_W} (h : k < 128) : BoxAt g (kI g k) (nI k) w := Or.inr ⟨128 + k, by omega, rfl, (kI_c k h)⟩
theorem Sub.box {g : Gv} {a : Nat} {v : Int32} {W : va_W} (h : Sub (BoxP g a v) W) : BoxAt g a v W := by
  obtain ⟨w, R, h1, h2⟩ := h
  exact BoxAt.mono h2.cell fun x hx => h1.mem_iff.mpr (List.mem_append_left _ hx)
theorem rc_bxat {g : Gv} {κ : Kx} {own : String} {cc : ByteArray} {nL : Nat} {ret : Option FieldType} {lvl : Nat} {L : List va_W} (B : Fx g κ own cc nL ret lvl) (J : Jd g) {k a : Nat} {v : Int32} {w : va_W} (hL : L[k]? = some w) (h : BoxAt g a v w) : Rec g κ L a "java/lang/Integer" := by
  rcases h with h | ⟨k, hk, rfl, -⟩
  · exact rc_in B (ci := 35) rfl hL ⟨_, h⟩
  · exact rc_O B (fun A U H h => (J.2.1.2.2 A U H h).1 k hk)
theorem rc_kI {g : Gv} {κ : Kx} {own : String} {cc : ByteArray} {nL : Nat} {ret : Option FieldType} {lvl : Nat} {L : List va_W} (B : Fx g κ own cc nL ret lvl) (J : Jd g) {k : Nat} (h : k < 128) : Rec g κ L (kI g k) "java/lang/Integer" := rc_O B (fun A U H z => (J.2.1.2.2 A U H z).1 (128 + k) (by omega))
theorem g_ivb {g : Gv} {κ : Kx} {own : String} {cc : ByteArray} {nL : Nat} {ret : Option FieldType} {lvl : Nat} {pc q : Nat} {lv : List (Option Value)} {st : List Value} {L : List va_W} {kc ks : Nat} (B : Fx g κ own cc nL ret lvl) (J : Jd g) {index k a : Nat} {v : Int32} {w : va_W} (hL : L[k]? = some w) (h : BoxAt g a v w) (d : decode cc pc = .ok (.getfield index, 3)) (hq : pc + 3 = q) (hl : Cond.fieldLink own index "java/lang/Integer" "value" "I" ∈ lw_all) (kk : Go g κ q lv (.int v :: st) L kc ks) : Go g κ pc lv (.ref a :: st) L kc ks := by
  rcases h with h | ⟨k, hk, rfl, rfl⟩
  · exact g_getM B (ci := 35) (j := 0) in_J26 rfl d hq hL h (Nat.le_of_ble_eq_true rfl) hl rfl rfl kk
  · exact g_getO B (fun A U H h => (J.2.1.2.2 A U H h).2 k hk) d hq hl kk
theorem g_ivk {g : Gv} {κ : Kx} {own : String} {cc : ByteArray} {nL : Nat} {ret : Option FieldType} {lvl : Nat} {pc q : Nat} {lv : List (Option Value)} {st : List Value} {L : List va_W} {kc ks : Nat} (B : Fx g κ own cc nL ret lvl) (J : Jd g) {index k : Nat} (hk : k < 128) (d : decode cc pc = .ok (.getfield index, 3)) (hq : pc + 3 = q) (hl : Cond.fieldLink own index "java/lang/Integer" "value" "I" ∈ lw_all) (kk : Go g κ q lv (.int (nI k) :: st) L kc ks) : Go g κ pc lv (.ref (kI g k) :: st) L kc ks := by
  rw [kI_c k hk] at kk
  exact g_getO B (fun A U H h => (J.2.1.2.2 A U H h).2 (128 + k) (by omega)) d hq hl kk
theorem oI_n {r : Option Nat} (h : ∀ n, r = some n → n < 2 ^ 31) : oI r = -1 ↔ r = none := by
  cases r with
  | none => exact ⟨fun _ => rfl, fun _ => rfl⟩
  | some n =>
    refine ⟨fun z => ?_, fun z => by cases z⟩
    have h1 := h n rfl
    have z2 : (nI n).toInt = (-1 : Int32).toInt := congrArg Int32.toInt z
    rw [nI_ti h1, show (-1 : Int32).toInt = -1 from rfl] at z2
    omega
theorem oI_nn {r : Option Nat} (h : ∀ n, r = some n → n < 2 ^ 31) : oI r ≠ -1 ↔ ¬ r = none := not_congr (oI_n h)
theorem oI_eq {r : Option Nat} {k : Nat} (h : ∀ n, r = some n → n < 2 ^ 31) (hk : k < 2 ^ 31) : oI r = nI k ↔ r = some k := by
  cases r with
  | none =>
    refine ⟨fun z => ?_, fun z => by cases z⟩
    have z2 : (-1 : Int32).toInt = (nI k).toInt := congrArg Int32.toInt z
    rw [nI_ti hk, show (-1 : Int32).toInt = -1 from rfl] at z2
    omega
  | some n =>
    refine ⟨fun z => ?_, fun z => by cases z; rfl⟩
    rw [(nI_eq (h n rfl) hk).mp z]
theorem oI_ne {r : Option Nat} {k : Nat} (h : ∀ n, r = some n → n < 2 ^ 31) (hk : k < 2 ^ 31) : oI r ≠ nI k ↔ ¬ r = some k := not_congr (oI_eq h hk)
theorem oI_eq2 {r : Option Nat} {k : Nat} (h : ∀ n, r = some n → n < 2 ^ 31) (hk : k < 2 ^ 31) : nI k = oI r ↔ r = some k := eq_comm.trans (oI_eq h hk)
theorem oI_ne2 {r : Option Nat} {k : Nat} (h : ∀ n, r = some n → n < 2 ^ 31) (hk : k < 2 ^ 31) : nI k ≠ oI r ↔ ¬ r = some k := not_congr (oI_eq2 h hk)
theorem oI_oI {r q : Option Nat} (h : ∀ n, r = some n → n < 2 ^ 31) (hq : ∀ n, q = some n → n < 2 ^ 31) : oI r = oI q ↔ r = q := by
  cases q with
  | none => exact oI_n h
  | some n => exact oI_eq h (hq n rfl)
theorem oI_lt {r : Option Nat} (h : ∀ n, r = some n → n < 2 ^ 31) : oI r < 0 ↔ r = none := by
  cases r with
  | none => exact ⟨fun _ => rfl, fun _ => by decide⟩
  | some n =>
    refine ⟨fun z => ?_, fun z => by cases z⟩
    have := h n rfl
    exact absurd z (nI_pos (by omega))
theorem upd_oI {f : Nat → Int32} {F : Nat → Option Nat} {n : Nat} (h : ∀ i, i < n → f i = oI (F i)) (k : Nat) (r : Option Nat) : ∀ i, i < n → upd f k (oI r) i = oI (fup F k r i) := by
  intro i hi
  unfold upd fup
  split
  · rfl
  · exact h i hi
theorem upd_nI {f : Nat → Int32} {F : Nat → Nat} {n : Nat} (h : ∀ i, i < n → f i = nI (F i)) (k : Nat) (r : Nat) : ∀ i, i < n → upd f k (nI r) i = nI (fup F k r i) := by
  intro i hi
  unfold upd fup
  split
  · rfl
  · exact h i hi
/-! lists of things -/
/-- a chunk of Integers -/
def BxE (g : Gv) (a : Nat) (v : Nat) (w : va_W) : Prop := BoxP g a (nI v) w
/-- an ArrayList at p, the things at ps in it, as rs says -/
def LoP (g : Gv) {α : Type} (F : Nat → α → va_W → Prop) (p : Nat) (ps : List Nat) (rs : List α) (cap : Nat) (w : va_W) : Prop := ∃ (md : Int32) (w1 w2 : va_W), ListP g p ps md cap w1 ∧ BigL F ps rs w2 ∧ w = ([w1, w2] : List va_W).flatten
theorem mem_fl2 {a b : va_W} {x : Nat × va_E} : x ∈ ([a, b] : List va_W).flatten ↔ x ∈ a ∨ x ∈ b := by simp
section
variable {g : Gv} {α : Type} {F : Nat → α → va_W → Prop} {p : Nat} {ps : List Nat} {rs : List α} {cap : Nat} {w : va_W}
theorem LoP.hm (h : LoP g F p ps rs cap w) : ∃ fs, (p, .inr (21, fs)) ∈ w := by
  obtain ⟨md, w1, w2, h1, -, rfl⟩ := h
  obtain ⟨fs, hf⟩ := h1.hm
  exact ⟨fs, mem_fl2.mpr (Or.inl hf)⟩
theorem LoP.len (h : LoP g F p ps rs cap w) : ps.length = rs.length ∧ rs.length ≤ cap ∧ cap < 16777216 := by
  obtain ⟨md, w1, w2, h1, h2, rfl⟩ := h
  have := h1.len
  have := h2.1
  omega
theorem LoP.li (h : LoP g F p ps rs cap w) : ∃ md : Int32, Sub (ListP g p ps md cap) w := by
  obtain ⟨md, w1, w2, h1, -, e⟩ := h
  exact ⟨md, w1, w2, by rw [e]; simp, h1⟩
theorem LoP.el (h : LoP g F p ps rs cap w) {i a : Nat} {r : α} (ha : ps[i]? = some a) (hr : rs[i]? = some r) : Sub (F a r) w := by
  obtain ⟨md, w1, w2, -, h2, rfl⟩ := h
  obtain ⟨u1, wi, u2, h3, -, rfl⟩ := h2.opn ha hr
  exact Sub.in (R := []) (L := [w1, u1, wi, u2]) (List.Perm.of_eq (by simp)) rfl 2 rfl h3
theorem LoP.opn (h : LoP g F p ps rs cap w) {i a : Nat} {r : α} (ha : ps[i]? = some a) (hr : rs[i]? = some r) : ∃ w1 wi w2 : va_W, F a r wi ∧ (∀ (r2 : α) (wj : va_W), F a r2 wj → LoP g F p ps (rs.set i r2) cap ([w1, wj, w2] : List va_W).flatten) ∧ w = ([w1, wi, w2] : List va_W).flatten := by
  obtain ⟨md, wl, wb, h1, h2, rfl⟩ := h
  obtain ⟨w1, wi, w2, h3, h4, rfl⟩ := h2.opn ha hr
  exact ⟨([wl, w1] : List va_W).flatten, wi, w2, h3, fun r2 wj hj => ⟨md, wl, _, h1, h4 r2 wj hj, by simp⟩, by simp⟩
theorem LoP.mono {G : Nat → α → va_W → Prop} (h : LoP g F p ps rs cap w) (hq : ∀ a r v, r ∈ rs → F a r v → G a r v) : LoP g G p ps rs cap w := by
  obtain ⟨md, w1, w2, h1, h2, e⟩ := h
  exact ⟨md, w1, w2, h1, h2.mono hq, e⟩
theorem LoP.at {W : va_W} (h : Sub (LoP g F p ps rs cap) W) : ∃ md : Int32, Sub (ListP g p ps md cap) W ∧ (ps.length = rs.length ∧ rs.length ≤ cap ∧ cap < 16777216) ∧ ∀ (i a : Nat) (r : α), ps[i]? = some a → rs[i]? = some r → Sub (F a r) W := by
  obtain ⟨w, R, hp, h⟩ := h
  obtain ⟨md, h1⟩ := h.li
  exact ⟨md, h1.up hp, h.len, fun i a r ha hr => (h.el ha hr).up hp⟩
/-- the same, the places not told -/
def LhP (g : Gv) {α : Type} (F : Nat → α → va_W → Prop) (p : Nat) (rs : List α) (cap : Nat) (w : va_W) : Prop := ∃ ps, LoP g F p ps rs cap w
theorem LhP.hm (h : LhP g F p rs cap w) : ∃ fs, (p, .inr (21, fs)) ∈ w := by
  obtain ⟨ps, h⟩ := h
  exact h.hm
theorem LhP.at {W : va_W} (h : Sub (LhP g F p rs cap) W) : ∃ (ps : List Nat) (md : Int32), Sub (ListP g p ps md cap) W ∧ (ps.length = rs.length ∧ rs.length ≤ cap ∧ cap < 16777216) ∧ ∀ (i a : Nat) (r : α), ps[i]? = some a → rs[i]? = some r → Sub (F a r) W := by
  obtain ⟨w, R, hp, ps, h⟩ := h
  exact ⟨ps, LoP.at ⟨w, R, hp, h⟩⟩
theorem LoP.push (h : LoP g F p ps rs cap w) (hF : ∀ a r v, F a r v → Vd g a v) (J : Jd g) {a mc ms : Nat} {r : α} {w1 : va_W} (ha : F a r w1) (hcap : cap < 8388608) (hm : ps.length = cap → 1 ≤ mc ∧ growN cap ≤ ms) : Ct g yJ2_add (ws_ yJ2_add cJ2_add 2 (some .boolean)) 6 mc ms [.ref p, .ref a] [w, w1] (fun rv L => ∃ u : va_W, rv = some (.int (nI 1)) ∧ L = [u] ∧ LoP g F p (ps ++ [a]) (rs ++ [r]) (if ps.length = cap then growN cap else cap) u) noX := by
  obtain ⟨md, wl, wb, h1, h2, rfl⟩ := h
  have hb := h2.push ha
  have he : EltP g (ps ++ [a]) ([wb, w1] : List va_W).flatten := hb.elt hF
  refine Ct.cq (ct_J2_add g J h1 hcap he hm) (List.Perm.of_eq (by simp)) ?_ noX_cq
  rintro v R ⟨md2, u0, rfl, rfl, hu⟩
  exact ⟨[([u0, ([wb, w1] : List va_W).flatten] : List va_W).flatten], [], List.Perm.of_eq (by simp), _, rfl, rfl, md2, u0, _, hu, hb, rfl⟩
theorem LhP.push (h : LhP g F p rs cap w) (hF : ∀ a r v, F a r v → Vd g a v) (J : Jd g) {a mc ms : Nat} {r : α} {w1 : va_W} (ha : F a r w1) (hcap : cap < 8388608) (hm : rs.length = cap → 1 ≤ mc ∧ growN cap ≤ ms) : Ct g yJ2_add (ws_ yJ2_add cJ2_add 2 (some .boolean)) 6 mc ms [.ref p, .ref a] [w, w1] (fun rv L => ∃ u : va_W, rv = some (.int (nI 1)) ∧ L = [u] ∧ LhP g F p (rs ++ [r]) (if rs.length = cap then growN cap else cap) u) noX := by
  obtain ⟨ps, h⟩ := h
  have hl := h.len.1
  refine Ct.cq (h.push hF J ha hcap (by rw [hl]; exact hm)) (List.Perm.refl _) ?_ noX_cq
  rintro v R ⟨u, rfl, rfl, hu⟩
  exact ⟨[u], [], by simp, u, rfl, rfl, ps ++ [a], by rw [← hl]; exact hu⟩
end
theorem nI_nm1 {n : Nat} (h : n < 2 ^ 31) : nI n ≠ -1 := fun z => by
  have z2 : (nI n).toInt = (-1 : Int32).toInt := congrArg Int32.toInt z
  rw [nI_ti h, show (-1 : Int32).toInt = -1 from rfl] at z2
  omega
theorem oI_ge {r : Option Nat} (h : ∀ n, r = some n → n < 2 ^ 31) : 0 ≤ oI r ↔ ¬ r = none := by
  rw [← oI_lt h, Int32.not_lt]
