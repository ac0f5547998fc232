set_option maxRecDepth 100000
theorem ct_J26_intValue_b (g : Gv) (J : Jd g) {a : Nat} {v : Int32} {wb : va_W} (hb : BoxAt g a v wb) : Ct g yJ26_intValue (ws_ yJ26_intValue cJ26_intValue 1 (some .int)) 0 0 0 [.ref a] [wb] (fun (rv_ : Option Value) (rL_ : List va_W) => rv_ = some (.int v) ∧ rL_ = [wb]) noX := by
  refine Ct.of "java/lang/Integer" [some (.ref a)] rfl (by decide) rfl (Nat.le_of_ble_eq_true rfl) rfl ?_
  intro κ B E tb
  refine g_aload_n (q := 1) B dJ26_intValue_0 rfl rfl (rv_r _) ?_
  refine g_ivb (q := 4) B J (k := 0) rfl hb dJ26_intValue_1 rfl q701 ?_
  exact g_iret B E dJ26_intValue_4 (⟨rfl, rfl⟩)
theorem ct_J26_intValue_k (g : Gv) (J : Jd g) {k : Nat} (hk : k < 128) : Ct g yJ26_intValue (ws_ yJ26_intValue cJ26_intValue 1 (some .int)) 0 0 0 [.ref (kI g k)] [] (fun (rv_ : Option Value) (rL_ : List va_W) => rv_ = some (.int (nI k)) ∧ rL_ = []) noX := by
  refine Ct.of "java/lang/Integer" [some (.ref (kI g k))] rfl (by decide) rfl (Nat.le_of_ble_eq_true rfl) rfl ?_
  intro κ B E tb
  refine g_aload_n (q := 1) B dJ26_intValue_0 rfl rfl (rv_r _) ?_
  refine g_ivk (q := 4) B J hk dJ26_intValue_1 rfl q701 ?_
  exact g_iret B E dJ26_intValue_4 (⟨rfl, rfl⟩)
theorem ct_J2_size_s (g : Gv) (J : Jd g) {p : Nat} {xs : List Nat} {md : Int32} {cap : Nat} {W0 : va_W} (hS0 : Sub (ListP g p xs md cap) W0) : Ct g yJ2_size (ws_ yJ2_size cJ2_size 1 (some .int)) 0 0 0 [.ref p] [W0] (fun (rv_ : Option Value) (rL_ : List va_W) => rv_ = some (.int (nI xs.length)) ∧ rL_ = [W0]) noX := by
  obtain ⟨w_, R_, hp_, hw_⟩ := hS0
  refine Ct.lift (ct_J2_size g J (p := p) (xs := xs) (md := md) (cap := cap) hw_ ) [R_] ?_ ?_
  · refine sub_in 0 rfl hp_ rfl
  · rintro v L ⟨e1, rfl⟩
    exact ⟨_, [], sub_out 0 rfl hp_ rfl, ⟨e1, rfl⟩⟩
theorem ct_J2_isEmpty_s (g : Gv) (J : Jd g) {p : Nat} {xs : List Nat} {md : Int32} {cap : Nat} {W0 : va_W} (hS0 : Sub (ListP g p xs md cap) W0) : Ct g yJ2_isEmpty (ws_ yJ2_isEmpty cJ2_isEmpty 1 (some .boolean)) 0 0 0 [.ref p] [W0] (fun (rv_ : Option Value) (rL_ : List va_W) => rv_ = some (.int (nI (if xs.length = 0 then 1 else 0))) ∧ rL_ = [W0]) noX := by
  obtain ⟨w_, R_, hp_, hw_⟩ := hS0
  refine Ct.lift (ct_J2_isEmpty g J (p := p) (xs := xs) (md := md) (cap := cap) hw_ ) [R_] ?_ ?_
  · refine sub_in 0 rfl hp_ rfl
  · rintro v L ⟨e1, rfl⟩
    exact ⟨_, [], sub_out 0 rfl hp_ rfl, ⟨e1, rfl⟩⟩
theorem ct_J2_get_s (g : Gv) (J : Jd g) {p : Nat} {xs : List Nat} {md : Int32} {cap : Nat} {i : Nat} {x : Nat} {W0 : va_W} (hS0 : Sub (ListP g p xs md cap) W0) (hi : xs[i]? = some x) : Ct g yJ2_get (ws_ yJ2_get cJ2_get 2 (some (.object "java/lang/Object"))) 2 0 0 [.ref p, .int (nI i)] [W0] (fun (rv_ : Option Value) (rL_ : List va_W) => rv_ = some (.ref x) ∧ rL_ = [W0]) noX := by
  obtain ⟨w_, R_, hp_, hw_⟩ := hS0
  refine Ct.lift (ct_J2_get g J (p := p) (xs := xs) (md := md) (cap := cap) (i := i) (x := x) hw_ hi) [R_] ?_ ?_
  · refine sub_in 0 rfl hp_ rfl
  · rintro v L ⟨e1, rfl⟩
    exact ⟨_, [], sub_out 0 rfl hp_ rfl, ⟨e1, rfl⟩⟩
theorem ct_J2_iterator_s (g : Gv) (J : Jd g) {p : Nat} {xs : List Nat} {md : Int32} {cap : Nat} {W0 : va_W} (hS0 : Sub (ListP g p xs md cap) W0) : Ct g yJ2_iterator (ws_ yJ2_iterator cJ2_iterator 1 (some (.object "java/util/Iterator"))) 2 1 4 [.ref p] [W0] (fun (rv_ : Option Value) (rL_ : List va_W) => ∃ (it : Nat), rv_ = some (.ref it) ∧ rL_ = [[(it, .inr (22, [.int (nI 0), .int (-1), .int md, .ref p]))], W0]) noX := by
  obtain ⟨w_, R_, hp_, hw_⟩ := hS0
  refine Ct.lift (ct_J2_iterator g J (p := p) (xs := xs) (md := md) (cap := cap) hw_ ) [R_] ?_ ?_
  · refine sub_in 0 rfl hp_ rfl
  · rintro v L ⟨it, e1, rfl⟩
    exact ⟨_, [], sub_out 1 rfl hp_ rfl, ⟨it, e1, rfl⟩⟩
theorem ct_J19_hasNext_s (g : Gv) (J : Jd g) {p : Nat} {xs : List Nat} {md : Int32} {cap : Nat} {it : Nat} {c : Nat} {lr : Int32} {W1 : va_W} (hS1 : Sub (ListP g p xs md cap) W1) (hc : c ≤ xs.length) : Ct g yJ19_hasNext (ws_ yJ19_hasNext cJ19_hasNext 1 (some .boolean)) 0 0 0 [.ref it] [[(it, .inr (22, [.int (nI c), .int lr, .int md, .ref p]))], W1] (fun (rv_ : Option Value) (rL_ : List va_W) => rv_ = some (.int (nI (if ¬ c = xs.length then 1 else 0))) ∧ rL_ = [[(it, .inr (22, [.int (nI c), .int lr, .int md, .ref p]))], W1]) noX := by
  obtain ⟨w_, R_, hp_, hw_⟩ := hS1
  refine Ct.lift (ct_J19_hasNext g J (p := p) (xs := xs) (md := md) (cap := cap) (it := it) (c := c) (lr := lr) hw_ hc) [R_] ?_ ?_
  · refine sub_in 1 rfl hp_ rfl
  · rintro v L ⟨e1, rfl⟩
    exact ⟨_, [], sub_out 1 rfl hp_ rfl, ⟨e1, rfl⟩⟩
theorem ct_J19_next_s (g : Gv) (J : Jd g) {p : Nat} {xs : List Nat} {md : Int32} {cap : Nat} {it : Nat} {c : Nat} {lr : Int32} {x : Nat} {W1 : va_W} (hS1 : Sub (ListP g p xs md cap) W1) (hi : xs[c]? = some x) : Ct g yJ19_next (ws_ yJ19_next cJ19_next 3 (some (.object "java/lang/Object"))) 1 0 0 [.ref it] [[(it, .inr (22, [.int (nI c), .int lr, .int md, .ref p]))], W1] (fun (rv_ : Option Value) (rL_ : List va_W) => rv_ = some (.ref x) ∧ rL_ = [[(it, .inr (22, [.int (nI (c + 1)), .int (nI c), .int md, .ref p]))], W1]) noX := by
  obtain ⟨w_, R_, hp_, hw_⟩ := hS1
  refine Ct.lift (ct_J19_next g J (p := p) (xs := xs) (md := md) (cap := cap) (it := it) (c := c) (lr := lr) (x := x) hw_ hi) [R_] ?_ ?_
  · refine sub_in 1 rfl hp_ rfl
  · rintro v L ⟨e1, rfl⟩
    exact ⟨_, [], sub_out 1 rfl hp_ rfl, ⟨e1, rfl⟩⟩
theorem ct_J5_get_s (g : Gv) (J : Jd g) {b : Nat} {S : Nat → Bool} {cap : Nat} {i : Nat} {W0 : va_W} (hS0 : Sub (SetP g b S cap) W0) (hi : i < 2 ^ 31) : Ct g yJ5_get (ws_ yJ5_get cJ5_get 3 (some .boolean)) 1 0 0 [.ref b, .int (nI i)] [W0] (fun (rv_ : Option Value) (rL_ : List va_W) => rv_ = some (.int (nI (if S i = true then 1 else 0))) ∧ rL_ = [W0]) noX := by
  obtain ⟨w_, R_, hp_, hw_⟩ := hS0
  refine Ct.lift (ct_J5_get g J (b := b) (S := S) (cap := cap) (i := i) hw_ hi) [R_] ?_ ?_
  · refine sub_in 0 rfl hp_ rfl
  · rintro v L ⟨e1, rfl⟩
    exact ⟨_, [], sub_out 0 rfl hp_ rfl, ⟨e1, rfl⟩⟩
theorem ct_J5_cardinality_s (g : Gv) (J : Jd g) {b : Nat} {S : Nat → Bool} {cap : Nat} {W0 : va_W} (hS0 : Sub (SetP g b S cap) W0) : Ct g yJ5_cardinality (ws_ yJ5_cardinality cJ5_cardinality 3 (some .int)) 1 0 0 [.ref b] [W0] (fun (rv_ : Option Value) (rL_ : List va_W) => rv_ = some (.int (nI (fb_ct S (64 * cap)))) ∧ rL_ = [W0]) noX := by
  obtain ⟨w_, R_, hp_, hw_⟩ := hS0
  refine Ct.lift (ct_J5_cardinality g J (b := b) (S := S) (cap := cap) hw_ ) [R_] ?_ ?_
  · refine sub_in 0 rfl hp_ rfl
  · rintro v L ⟨e1, rfl⟩
    exact ⟨_, [], sub_out 0 rfl hp_ rfl, ⟨e1, rfl⟩⟩
theorem ct_J5_nextSetBit_s (g : Gv) (J : Jd g) {b : Nat} {S : Nat → Bool} {cap : Nat} {f : Nat} {W0 : va_W} (hS0 : Sub (SetP g b S cap) W0) (hf : f < 2 ^ 31) : Ct g yJ5_nextSetBit (ws_ yJ5_nextSetBit cJ5_nextSetBit 5 (some .int)) 2 0 0 [.ref b, .int (nI f)] [W0] (fun (rv_ : Option Value) (rL_ : List va_W) => ∃ (r : Option Nat), rv_ = some (.int (oI r)) ∧ rL_ = [W0] ∧ (nxt S f r)) noX := by
  obtain ⟨w_, R_, hp_, hw_⟩ := hS0
  refine Ct.lift (ct_J5_nextSetBit g J (b := b) (S := S) (cap := cap) (f := f) hw_ hf) [R_] ?_ ?_
  · refine sub_in 0 rfl hp_ rfl
  · rintro v L ⟨r, e1, rfl, hr⟩
    exact ⟨_, [], sub_out 0 rfl hp_ rfl, ⟨r, e1, rfl, hr⟩⟩
theorem ct_add_IlP (g : Gv) (J : Jd g) {p : Nat} {rs : List Nat} {cap : Nat} {a : Nat} {r : Nat} {mc : Nat} {ms : Nat} {w0 : va_W} {w1 : va_W} (hw0 : LhP g (BxE g) p rs cap w0) (hw1 : BxE g a r w1) (hcap : cap < 8388608) (hm : rs.length = cap → 1 ≤ mc ∧ growN cap ≤ ms) : Ct g yJ2_add (ws_ yJ2_add cJ2_add 2 (some .boolean)) 6 mc ms [.ref p, .ref a] [w0, w1] (fun (rv_ : Option Value) (rL_ : List va_W) => ∃ (u0 : va_W), rv_ = some (.int (nI 1)) ∧ rL_ = [u0] ∧ LhP g (BxE g) p (rs ++ [r]) (if rs.length = cap then growN cap else cap) u0) noX := LhP.push hw0 (fun _ _ _ z => BoxP.vd z) J hw1 hcap hm
theorem ListP.nilL {g : Gv} {α : Type} {F : Nat → α → va_W → Prop} {p : Nat} {md : Int32} {cap : Nat} {w : va_W} (h : ListP g p [] md cap w) : LoP g F p [] [] cap w := ⟨md, w, _, h, BigL.nil, by simp⟩
theorem ListP.nilH {g : Gv} {α : Type} {F : Nat → α → va_W → Prop} {p : Nat} {md : Int32} {cap : Nat} {w : va_W} (h : ListP g p [] md cap w) : LhP g F p [] cap w := ⟨[], h.nilL⟩
