set_option maxRecDepth 100000
/-! one and the same secret on two sides -/
/-- the i-th secret is called n -/
def At (ss : List Sec) (i : Nat) (n : Nm) : Prop := (nms ss)[i]? = some n
theorem At.lt {ss : List Sec} {i : Nat} {n : Nm} (h : At ss i n) : i < ss.length := by have := get_lt2 h; rw [nms_len] at this; exact this
theorem At.na {ss : List Sec} {i : Nat} {n : Nm} (h : At ss i n) : nm ss i = n := by
  unfold nm
  rw [List.getD_eq_getElem?_getD, show (nms ss)[i]? = some n from h]; rfl
theorem At.of {ss : List Sec} {i : Nat} (h : i < ss.length) : At ss i (nm ss i) := by
  unfold At nm
  rw [List.getD_eq_getElem?_getD, List.getElem?_eq_getElem (by rw [nms_len]; exact h)]; rfl
theorem At.mem {ss : List Sec} {i : Nat} {n : Nm} (h : At ss i n) : n ∈ nms ss := List.mem_of_getElem? h
theorem At.ex {ss : List Sec} {n : Nm} (h : n ∈ nms ss) : ∃ i, At ss i n := List.getElem?_of_mem h
theorem At.fn {ss : List Sec} {i : Nat} {n m : Nm} (h : At ss i n) (h2 : At ss i m) : n = m := Option.some.inj (h.symm.trans h2)
theorem At.inj {ss : List Sec} (hs : NmOk ss) {i j : Nat} {n : Nm} (h : At ss i n) (h2 : At ss j n) : i = j := nm_inj hs h.lt h2.lt (h.na.trans h2.na.symm)
/-- the list has only grown -/
def Pf (ss s2 : List Sec) : Prop := ∃ t, s2 = ss ++ t
theorem Pf.rfl {ss : List Sec} : Pf ss ss := ⟨[], (List.append_nil ss).symm⟩
theorem Pf.tr {a b c : List Sec} (h : Pf a b) (h2 : Pf b c) : Pf a c := by
  obtain ⟨t, rfl⟩ := h
  obtain ⟨u, rfl⟩ := h2
  exact ⟨t ++ u, List.append_assoc ..⟩
theorem Pf.len {a b : List Sec} (h : Pf a b) : a.length ≤ b.length := by obtain ⟨t, rfl⟩ := h; simp
theorem Pf.at {a b : List Sec} (h : Pf a b) {i : Nat} {n : Nm} (hn : At a i n) : At b i n := by
  obtain ⟨t, rfl⟩ := h
  have h1 := At.of (ss := a ++ t) (i := i) (by have := hn.lt; simp; omega)
  rw [nm_ext hn.lt, hn.na] at h1
  exact h1
theorem Pf.frm {ss s2 : List Sec} {K : Ky} {i : Nat} (h : frm ss K = (s2, i)) : Pf ss s2 := by
  cases e : fnd ss K with
  | some j => rw [frm_s e] at h; cases h; exact Pf.rfl
  | none => rw [frm_n e] at h; cases h; exact ⟨_, _root_.rfl⟩
theorem Pf.snoc {ss : List Sec} {s : Sec} : Pf ss (ss ++ [s]) := ⟨[s], _root_.rfl⟩
theorem Pf.get {a b : List Sec} (h : Pf a b) {i : Nat} {s : Sec} (hs : a[i]? = some s) : b[i]? = some s := by
  obtain ⟨t, rfl⟩ := h
  rw [List.getElem?_append_left (get_lt2 hs)]; exact hs
/-- a key's name, its parents being there -/
def KN (ss : List Sec) (K : Ky) (n : Nm) : Prop := ∃ x, At ss K.1 x ∧ match K.2.1 with
  | none => n = n1 x K.2.2
  | some q => ∃ y, At ss q y ∧ n = n2 x y K.2.2
theorem KN.b {ss : List Sec} {K : Ky} {n : Nm} (h : KN ss K n) : KyB ss.length K := by
  obtain ⟨x, h1, h2⟩ := h
  refine ⟨h1.lt, fun q hq => ?_⟩
  rw [hq] at h2
  obtain ⟨y, h3, -⟩ := h2
  exact h3.lt
theorem KN.na {ss : List Sec} {K : Ky} {n : Nm} (h : KN ss K n) : nmK ss K = n := by
  obtain ⟨x, h1, h2⟩ := h
  unfold nmK
  cases e : K.2.1 with
  | none => rw [e] at h2; rw [h1.na]; exact h2.symm
  | some q =>
    rw [e] at h2
    obtain ⟨y, h3, h4⟩ := h2
    show n2 (nm ss K.1) (nm ss q) K.2.2 = n
    rw [h1.na, h3.na]; exact h4.symm
theorem KN.i1 {ss : List Sec} {o l : Nat} {x : Nm} (h : At ss o x) : KN ss (o, none, l) (n1 x l) := ⟨x, h, _root_.rfl⟩
theorem KN.i2 {ss : List Sec} {o q l : Nat} {x y : Nm} (h : At ss o x) (h2 : At ss q y) : KN ss (o, some q, l) (n2 x y l) := ⟨x, h, y, h2, _root_.rfl⟩
/-- what follows, one side -/
theorem frm_1 {ss s2 : List Sec} {K : Ky} {i : Nat} {n : Nm} (h : ScOk ss) (hK : KN ss K n) (hf : frm ss K = (s2, i)) : ScOk s2 ∧ Pf ss s2 ∧ At s2 i n ∧ (∀ x, x ∈ nms s2 ↔ x ∈ nms ss ∨ x = n) ∧ dVs s2 = dVs ss := by
  obtain ⟨h1, h2, -, h4, h5, h6, -⟩ := frm_nm h hK.b hf
  have h7 := At.of h6
  rw [h2, hK.na] at h7
  rw [hK.na] at h4
  exact ⟨h1, Pf.frm hf, h7, h4, h5⟩
theorem drw_1 {ss : List Sec} {s : Sec} (h : ScOk ss) (hs : s.2.1 = none) : ScOk (ss ++ [s]) ∧ Pf ss (ss ++ [s]) ∧ At (ss ++ [s]) ss.length (nD (dVs ss).length) ∧ (∀ x, x ∈ nms (ss ++ [s]) ↔ x ∈ nms ss ∨ x = nD (dVs ss).length) ∧ dVs (ss ++ [s]) = dVs ss ++ [s.1] := by
  obtain ⟨h1, h2, -, h4, h5⟩ := drw_nm h hs
  have h7 := At.of (ss := ss ++ [s]) (i := ss.length) (by simp)
  rw [h2, drN_len] at h7
  rw [drN_len] at h4
  exact ⟨h1, Pf.snoc, h7, h4, h5⟩
/-- a secret that follows, seen from its name -/
theorem at_1 {ss : List Sec} (h : ScOk ss) {i l : Nat} {x : Nm} (ha : At ss i (n1 x l)) : ∃ o s, At ss o x ∧ ss[i]? = some s ∧ sKy s = some (o, none, l) ∧ o < i := by
  obtain ⟨s, hs⟩ := get_ex ha.lt
  cases e : sKy s with
  | none =>
    have d : s.2.1 = none := by
      unfold sKy at e
      cases e4 : s.2.1 with
      | none => rfl
      | some o => rw [e4] at e; cases e
    have h1 := ha.na
    rw [nm_dr hs d] at h1
    exact absurd h1 nD_1
  | some K =>
    obtain ⟨k1, k2⟩ := nm_at h.2.1 hs e
    have h1 := ha.na
    rw [k1] at h1
    unfold nmK at h1
    cases e5 : K.2.1 with
    | some q => rw [e5] at h1; exact absurd h1.symm n1_2
    | none =>
      rw [e5] at h1
      have h2 := n1_i h1
      have h3 := At.of (ss := ss) (i := K.1) (by have := k2.1; have := ha.lt; omega)
      rw [h2.1] at h3
      refine ⟨K.1, s, h3, hs, ?_, k2.1⟩
      rw [e, ← h2.2, ← e5]
theorem at_2 {ss : List Sec} (h : ScOk ss) {i l : Nat} {x y : Nm} (ha : At ss i (n2 x y l)) : ∃ o q s, At ss o x ∧ At ss q y ∧ ss[i]? = some s ∧ sKy s = some (o, some q, l) ∧ o < i ∧ q < i := by
  obtain ⟨s, hs⟩ := get_ex ha.lt
  cases e : sKy s with
  | none =>
    have d : s.2.1 = none := by
      unfold sKy at e
      cases e4 : s.2.1 with
      | none => rfl
      | some o => rw [e4] at e; cases e
    have h1 := ha.na
    rw [nm_dr hs d] at h1
    exact absurd h1 nD_2
  | some K =>
    obtain ⟨k1, k2⟩ := nm_at h.2.1 hs e
    have h1 := ha.na
    rw [k1] at h1
    unfold nmK at h1
    cases e5 : K.2.1 with
    | none => rw [e5] at h1; exact absurd h1 n1_2
    | some q =>
      rw [e5] at h1
      have h2 := n2_i h1
      have hl := ha.lt
      have hq := k2.2 q e5
      have h3 := At.of (ss := ss) (i := K.1) (by have := k2.1; omega)
      have h4 := At.of (ss := ss) (i := q) (by omega)
      rw [h2.1] at h3
      rw [h2.2.1] at h4
      refine ⟨K.1, q, s, h3, h4, hs, ?_, k2.1, hq⟩
      rw [e, ← h2.2.2, ← e5]
/-- the key is met: it stands there already -/
theorem fnd_1 {ss : List Sec} (h : ScOk ss) {i o l : Nat} {x : Nm} (ho : At ss o x) (ha : At ss i (n1 x l)) : fnd ss (o, none, l) = some i := by
  cases e : fnd ss (o, none, l) with
  | some j =>
    obtain ⟨s, hs, hk⟩ := fnd_at e
    have h1 := (nm_at h.2.1 hs hk).1
    have h2 := At.of (get_lt2 hs)
    rw [h1, show nmK ss (o, none, l) = n1 (nm ss o) l from rfl, ho.na] at h2
    rw [h2.inj h.1 ha]
  | none =>
    obtain ⟨o2, s, h1, h2, h3, -⟩ := at_1 h ha
    rw [h1.inj h.1 ho] at h3
    exact absurd h3 (fnd_no e h2)
theorem fnd_2 {ss : List Sec} (h : ScOk ss) {i o q l : Nat} {x y : Nm} (ho : At ss o x) (hq : At ss q y) (ha : At ss i (n2 x y l)) : fnd ss (o, some q, l) = some i := by
  cases e : fnd ss (o, some q, l) with
  | some j =>
    obtain ⟨s, hs, hk⟩ := fnd_at e
    have h1 := (nm_at h.2.1 hs hk).1
    have h2 := At.of (get_lt2 hs)
    rw [h1, show nmK ss (o, some q, l) = n2 (nm ss o) (nm ss q) l from rfl, ho.na, hq.na] at h2
    rw [h2.inj h.1 ha]
  | none =>
    obtain ⟨o2, q2, s, h1, h2, h3, h4, -⟩ := at_2 h ha
    rw [h1.inj h.1 ho, h2.inj h.1 hq] at h4
    exact absurd h4 (fnd_no e h3)
/-! two sides -/
def Nq (ss tt : List Sec) (i j : Nat) : Prop := ∃ n, At ss i n ∧ At tt j n
theorem Nq.up {ss tt s2 t2 : List Sec} (h1 : Pf ss s2) (h2 : Pf tt t2) {i j : Nat} (h : Nq ss tt i j) : Nq s2 t2 i j := by
  obtain ⟨n, a, b⟩ := h
  exact ⟨n, h1.at a, h2.at b⟩
theorem Nq.r {ss tt : List Sec} (ht : NmOk tt) {i j k : Nat} (h : Nq ss tt i j) (h2 : Nq ss tt i k) : j = k := by
  obtain ⟨n, a, b⟩ := h
  obtain ⟨m, c, d⟩ := h2
  rw [c.fn a] at d
  exact b.inj ht d
theorem Nq.l {ss tt : List Sec} (hs : NmOk ss) {i j k : Nat} (h : Nq ss tt i k) (h2 : Nq ss tt j k) : i = j := by
  obtain ⟨n, a, b⟩ := h
  obtain ⟨m, c, d⟩ := h2
  rw [d.fn b] at c
  exact a.inj hs c
theorem Nq.lt {ss tt : List Sec} {i j : Nat} (h : Nq ss tt i j) : i < ss.length ∧ j < tt.length := by
  obtain ⟨n, a, b⟩ := h
  exact ⟨a.lt, b.lt⟩
/-- the secrets of both sides -/
def SqS (ss tt : List Sec) : Prop := ScOk ss ∧ ScOk tt ∧ dVs ss = dVs tt ∧ ∀ n, n ∈ nms ss ↔ n ∈ nms tt
theorem SqS.vl {ss tt : List Sec} (h : SqS ss tt) {i j : Nat} (hq : Nq ss tt i j) : vl ss i = vl tt j := by
  obtain ⟨n, a, b⟩ := hq
  exact vl_nm h.1 h.2.1 h.2.2.1 i j a.lt b.lt (a.na.trans b.na.symm)
theorem SqS.to {ss tt : List Sec} (h : SqS ss tt) {i : Nat} (hi : i < ss.length) : ∃ j, Nq ss tt i j := by
  have h1 := At.of hi
  obtain ⟨j, hj⟩ := At.ex ((h.2.2.2 _).mp h1.mem)
  exact ⟨j, _, h1, hj⟩
theorem SqS.fro {ss tt : List Sec} (h : SqS ss tt) {j : Nat} (hj : j < tt.length) : ∃ i, Nq ss tt i j := by
  have h1 := At.of hj
  obtain ⟨i, hi⟩ := At.ex ((h.2.2.2 _).mpr h1.mem)
  exact ⟨i, _, hi, h1⟩
theorem SqS.len {ss tt : List Sec} (h : SqS ss tt) : ss.length = tt.length := by
  rw [← nms_len ss, ← nms_len tt]
  exact ((List.perm_ext_iff_of_nodup h.1.1 h.2.1.1).mpr h.2.2.2).length_eq
def Oq (ss tt : List Sec) (a b : Option Nat) : Prop := (a = none ∧ b = none) ∨ ∃ i j, a = some i ∧ b = some j ∧ Nq ss tt i j
theorem Oq.up {ss tt s2 t2 : List Sec} (h1 : Pf ss s2) (h2 : Pf tt t2) {a b : Option Nat} (h : Oq ss tt a b) : Oq s2 t2 a b := by
  rcases h with h | ⟨i, j, h3, h4, h5⟩
  · exact Or.inl h
  · exact Or.inr ⟨i, j, h3, h4, h5.up h1 h2⟩
theorem Oq.no {ss tt : List Sec} {a b : Option Nat} (h : Oq ss tt a b) : a = none ↔ b = none := by
  rcases h with ⟨rfl, rfl⟩ | ⟨i, j, rfl, rfl, -⟩
  · simp
  · simp
def Bq (ss tt : List Sec) (bx cx : List (Nat × Nat)) : Prop := bx.length = cx.length ∧ ∀ (k : Nat) (p q : Nat × Nat), bx[k]? = some p → cx[k]? = some q → Nq ss tt p.1 q.1 ∧ Nq ss tt p.2 q.2
theorem Bq.up {ss tt s2 t2 : List Sec} (h1 : Pf ss s2) (h2 : Pf tt t2) {a b : List (Nat × Nat)} (h : Bq ss tt a b) : Bq s2 t2 a b :=
  ⟨h.1, fun k p q hp hq => ⟨(h.2 k p q hp hq).1.up h1 h2, (h.2 k p q hp hq).2.up h1 h2⟩⟩
theorem Bq.snoc {ss tt : List Sec} {a b : List (Nat × Nat)} (h : Bq ss tt a b) {p q : Nat × Nat} (h1 : Nq ss tt p.1 q.1) (h2 : Nq ss tt p.2 q.2) : Bq ss tt (a ++ [p]) (b ++ [q]) := by
  refine ⟨by simp [h.1], fun k x y hx hy => ?_⟩
  rcases Nat.lt_or_ge k a.length with z | z
  · rw [List.getElem?_append_left z] at hx
    rw [List.getElem?_append_left (by have := h.1; omega)] at hy
    exact h.2 k x y hx hy
  · rw [List.getElem?_append_right z] at hx
    rw [List.getElem?_append_right (by have := h.1; omega)] at hy
    have hl := get_lt2 hx
    have e : k = a.length := by simp at hl; omega
    rw [e, Nat.sub_self] at hx
    rw [e, h.1, Nat.sub_self] at hy
    cases hx; cases hy
    exact ⟨h1, h2⟩
/-- sets by names -/
def Sq (ss tt : List Sec) (P Q : Nat → Prop) : Prop := (∀ i, P i → ∃ j, Q j ∧ Nq ss tt i j) ∧ ∀ j, Q j → ∃ i, P i ∧ Nq ss tt i j
theorem Sq.up {ss tt s2 t2 : List Sec} (h1 : Pf ss s2) (h2 : Pf tt t2) {P Q : Nat → Prop} (h : Sq ss tt P Q) : Sq s2 t2 P Q :=
  ⟨fun i hi => by obtain ⟨j, a, b⟩ := h.1 i hi; exact ⟨j, a, b.up h1 h2⟩, fun j hj => by obtain ⟨i, a, b⟩ := h.2 j hj; exact ⟨i, a, b.up h1 h2⟩⟩
theorem Sq.iff {ss tt : List Sec} (hs : NmOk ss) (ht : NmOk tt) {P Q : Nat → Prop} (h : Sq ss tt P Q) {i j : Nat} (hq : Nq ss tt i j) : P i ↔ Q j := by
  constructor
  · intro z
    obtain ⟨k, a, b⟩ := h.1 i z
    rw [hq.r ht b]; exact a
  · intro z
    obtain ⟨k, a, b⟩ := h.2 j z
    rw [hq.l hs b]; exact a
theorem Sq.or {ss tt : List Sec} {P Q P2 Q2 : Nat → Prop} (h : Sq ss tt P Q) (h2 : Sq ss tt P2 Q2) : Sq ss tt (fun i => P i ∨ P2 i) (fun j => Q j ∨ Q2 j) := by
  refine ⟨fun i hi => ?_, fun j hj => ?_⟩
  · rcases hi with z | z
    · obtain ⟨j, a, b⟩ := h.1 i z; exact ⟨j, Or.inl a, b⟩
    · obtain ⟨j, a, b⟩ := h2.1 i z; exact ⟨j, Or.inr a, b⟩
  · rcases hj with z | z
    · obtain ⟨i, a, b⟩ := h.2 j z; exact ⟨i, Or.inl a, b⟩
    · obtain ⟨i, a, b⟩ := h2.2 j z; exact ⟨i, Or.inr a, b⟩
theorem Sq.cg {ss tt : List Sec} {P Q P2 Q2 : Nat → Prop} (h : Sq ss tt P Q) (h1 : ∀ i, P2 i ↔ P i) (h2 : ∀ j, Q2 j ↔ Q j) : Sq ss tt P2 Q2 :=
  ⟨fun i hi => by obtain ⟨j, a, b⟩ := h.1 i ((h1 i).mp hi); exact ⟨j, (h2 j).mpr a, b⟩, fun j hj => by obtain ⟨i, a, b⟩ := h.2 j ((h2 j).mp hj); exact ⟨i, (h1 i).mpr a, b⟩⟩
theorem Sq.one {ss tt : List Sec} {i j : Nat} (h : Nq ss tt i j) : Sq ss tt (fun x => x = i) (fun y => y = j) :=
  ⟨fun _ e => ⟨j, rfl, by rw [e]; exact h⟩, fun _ e => ⟨i, rfl, by rw [e]; exact h⟩⟩
theorem Sq.no {ss tt : List Sec} {P Q : Nat → Prop} (h1 : ∀ i, ¬ P i) (h2 : ∀ j, ¬ Q j) : Sq ss tt P Q := ⟨fun i h => absurd h (h1 i), fun j h => absurd h (h2 j)⟩
/-- what can be found, on both sides -/
theorem Sq.clo {ss tt : List Sec} {bx cx : List (Nat × Nat)} {P Q : Nat → Prop} (hs : SqS ss tt) (hb : Bq ss tt bx cx) (h : Sq ss tt P Q) : Sq ss tt (ClQ ss bx P) (ClQ tt cx Q) := by
  constructor
  · intro i hi
    refine hi (fun i => ∃ j, ClQ tt cx Q j ∧ Nq ss tt i j) (fun v hv => ?_) (fun k s o hk ho hP hq => ?_) (fun p hp hP => ?_)
    · obtain ⟨j, a, b⟩ := h.1 v hv
      exact ⟨j, fun R r1 _ _ => r1 j a, b⟩
    · obtain ⟨o2, ho2, n, an, bn⟩ := hP
      have hkl := get_lt2 hk
      have e : sKy s = some (o, s.2.2.1, s.2.2.2) := by unfold sKy; rw [ho]; rfl
      obtain ⟨k1, k2⟩ := nm_at hs.1.2.1 hk e
      have hA := At.of hkl
      cases e2 : s.2.2.1 with
      | none =>
        rw [e2] at k1
        rw [k1, show nmK ss (o, none, s.2.2.2) = n1 (nm ss o) s.2.2.2 from rfl, an.na] at hA
        obtain ⟨j, hj⟩ := At.ex ((hs.2.2.2 _).mp hA.mem)
        obtain ⟨o3, t, h1, h2, h3, -⟩ := at_1 hs.2.1 hj
        have h4 := h1.inj hs.2.1.1 bn
        refine ⟨j, fun R r1 r2 r3 => ?_, _, hA, hj⟩
        have h5 : t.2.1 = some o2 ∧ t.2.2.1 = none := by
          unfold sKy at h3
          cases e6 : t.2.1 with
          | none => rw [e6] at h3; cases h3
          | some z =>
            rw [e6] at h3
            simp at h3
            exact ⟨by rw [h3.1, h4], h3.2.1⟩
        exact r2 j t o2 h2 h5.1 (ho2 R r1 r2 r3) (fun q z => by rw [h5.2] at z; cases z)
      | some q =>
        obtain ⟨q2, hq2, m, am, bm⟩ := hq q e2
        rw [e2] at k1
        rw [k1, show nmK ss (o, some q, s.2.2.2) = n2 (nm ss o) (nm ss q) s.2.2.2 from rfl, an.na, am.na] at hA
        obtain ⟨j, hj⟩ := At.ex ((hs.2.2.2 _).mp hA.mem)
        obtain ⟨o3, q3, t, h1, h1b, h2, h3, -⟩ := at_2 hs.2.1 hj
        have h4 := h1.inj hs.2.1.1 bn
        have h4b := h1b.inj hs.2.1.1 bm
        refine ⟨j, fun R r1 r2 r3 => ?_, _, hA, hj⟩
        have h5 : t.2.1 = some o2 ∧ t.2.2.1 = some q2 := by
          unfold sKy at h3
          cases e6 : t.2.1 with
          | none => rw [e6] at h3; cases h3
          | some z =>
            rw [e6] at h3
            simp at h3
            exact ⟨by rw [h3.1, h4], by rw [h3.2.1, h4b]⟩
        exact r2 j t o2 h2 h5.1 (ho2 R r1 r2 r3) (fun q4 z => by rw [h5.2] at z; cases z; exact hq2 R r1 r2 r3)
    · obtain ⟨j, hj, n, an, bn⟩ := hP
      obtain ⟨k, hk⟩ := List.getElem?_of_mem hp
      obtain ⟨q, hq⟩ := get_ex (xs := cx) (i := k) (by have := get_lt2 hk; have := hb.1; omega)
      obtain ⟨h1, h2⟩ := hb.2 k p q hk hq
      refine ⟨q.2, fun R r1 r2 r3 => r3 q (List.mem_of_getElem? hq) ?_, h2⟩
      rw [h1.r hs.2.1.1 ⟨n, an, bn⟩]
      exact hj R r1 r2 r3
  · intro i hi
    refine hi (fun j => ∃ i, ClQ ss bx P i ∧ Nq ss tt i j) (fun v hv => ?_) (fun k s o hk ho hP hq => ?_) (fun p hp hP => ?_)
    · obtain ⟨j, a, b⟩ := h.2 v hv
      exact ⟨j, fun R r1 _ _ => r1 j a, b⟩
    · obtain ⟨o2, ho2, n, an, bn⟩ := hP
      have hkl := get_lt2 hk
      have e : sKy s = some (o, s.2.2.1, s.2.2.2) := by unfold sKy; rw [ho]; rfl
      obtain ⟨k1, k2⟩ := nm_at hs.2.1.2.1 hk e
      have hA := At.of hkl
      cases e2 : s.2.2.1 with
      | none =>
        rw [e2] at k1
        rw [k1, show nmK tt (o, none, s.2.2.2) = n1 (nm tt o) s.2.2.2 from rfl, bn.na] at hA
        obtain ⟨j, hj⟩ := At.ex ((hs.2.2.2 _).mpr hA.mem)
        obtain ⟨o3, t, h1, h2, h3, -⟩ := at_1 hs.1 hj
        have h4 := h1.inj hs.1.1 an
        refine ⟨j, fun R r1 r2 r3 => ?_, _, hj, hA⟩
        have h5 : t.2.1 = some o2 ∧ t.2.2.1 = none := by
          unfold sKy at h3
          cases e6 : t.2.1 with
          | none => rw [e6] at h3; cases h3
          | some z =>
            rw [e6] at h3
            simp at h3
            exact ⟨by rw [h3.1, h4], h3.2.1⟩
        exact r2 j t o2 h2 h5.1 (ho2 R r1 r2 r3) (fun q z => by rw [h5.2] at z; cases z)
      | some q =>
        obtain ⟨q2, hq2, m, am, bm⟩ := hq q e2
        rw [e2] at k1
        rw [k1, show nmK tt (o, some q, s.2.2.2) = n2 (nm tt o) (nm tt q) s.2.2.2 from rfl, bn.na, bm.na] at hA
        obtain ⟨j, hj⟩ := At.ex ((hs.2.2.2 _).mpr hA.mem)
        obtain ⟨o3, q3, t, h1, h1b, h2, h3, -⟩ := at_2 hs.1 hj
        have h4 := h1.inj hs.1.1 an
        have h4b := h1b.inj hs.1.1 am
        refine ⟨j, fun R r1 r2 r3 => ?_, _, hj, hA⟩
        have h5 : t.2.1 = some o2 ∧ t.2.2.1 = some q2 := by
          unfold sKy at h3
          cases e6 : t.2.1 with
          | none => rw [e6] at h3; cases h3
          | some z =>
            rw [e6] at h3
            simp at h3
            exact ⟨by rw [h3.1, h4], by rw [h3.2.1, h4b]⟩
        exact r2 j t o2 h2 h5.1 (ho2 R r1 r2 r3) (fun q4 z => by rw [h5.2] at z; cases z; exact hq2 R r1 r2 r3)
    · obtain ⟨j, hj, n, an, bn⟩ := hP
      obtain ⟨k, hk⟩ := List.getElem?_of_mem hp
      obtain ⟨q, hq⟩ := get_ex (xs := bx) (i := k) (by have := get_lt2 hk; have := hb.1; omega)
      obtain ⟨h1, h2⟩ := hb.2 k q p hq hk
      refine ⟨q.2, fun R r1 r2 r3 => r3 q (List.mem_of_getElem? hq) ?_, h2⟩
      rw [h1.l hs.1.1 ⟨n, an, bn⟩]
      exact hj R r1 r2 r3
theorem nd_map {α β : Type} {f : α → β} {l : List α} (h : l.Nodup) (hf : ∀ a ∈ l, ∀ b ∈ l, f a = f b → a = b) : (l.map f).Nodup := by
  rw [List.Nodup, List.pairwise_map]
  exact List.Pairwise.imp_of_mem (fun ha hb hne e => hne (hf _ ha _ hb e)) h
/-- lists that hold the same secrets are as long -/
theorem Sq.len {ss tt : List Sec} (hs : NmOk ss) (ht : NmOk tt) {us vs : List Nat} (h1 : us.Nodup) (h2 : vs.Nodup) (h : Sq ss tt (fun i => i ∈ us) (fun j => j ∈ vs)) : us.length = vs.length := by
  have e1 : (us.map (nm ss)).Nodup := by
    refine nd_map h1 ?_
    intro a ha b hb e
    obtain ⟨j, -, qa⟩ := h.1 a ha
    obtain ⟨k, -, qb⟩ := h.1 b hb
    exact nm_inj hs qa.lt.1 qb.lt.1 e
  have e2 : (vs.map (nm tt)).Nodup := by
    refine nd_map h2 ?_
    intro a ha b hb e
    obtain ⟨j, -, qa⟩ := h.2 a ha
    obtain ⟨k, -, qb⟩ := h.2 b hb
    exact nm_inj ht qa.lt.2 qb.lt.2 e
  have e3 : ∀ x, x ∈ us.map (nm ss) ↔ x ∈ vs.map (nm tt) := by
    intro x
    rw [List.mem_map, List.mem_map]
    constructor
    · rintro ⟨i, hi, rfl⟩
      obtain ⟨j, hj, n, a, b⟩ := h.1 i hi
      exact ⟨j, hj, by rw [a.na, b.na]⟩
    · rintro ⟨j, hj, rfl⟩
      obtain ⟨i, hi, n, a, b⟩ := h.2 j hj
      exact ⟨i, hi, by rw [a.na, b.na]⟩
  have e4 := ((List.perm_ext_iff_of_nodup e1 e2).mpr e3).length_eq
  rw [List.length_map, List.length_map] at e4
  exact e4
theorem ct_rng (K : Nat → Bool) : ∀ n, fb_ct K n = ((List.range n).filter K).length
  | 0 => rfl
  | n + 1 => by
    rw [fb_ct_succ, List.range_succ, List.filter_append, List.length_append, ct_rng K n]
    congr 1
    cases e : K n <;> simp [e]
/-- sets that hold the same secrets are as great -/
theorem Sq.ct {ss tt : List Sec} (hs : NmOk ss) (ht : NmOk tt) {K L : Nat → Bool} {n m : Nat} (hn : ∀ i, K i = true → i < n) (hm : ∀ j, L j = true → j < m) (h : Sq ss tt (fun i => K i = true) (fun j => L j = true)) : fb_ct K n = fb_ct L m := by
  rw [ct_rng, ct_rng]
  refine Sq.len hs ht (List.nodup_range.filter _) (List.nodup_range.filter _) (h.cg (fun i => ?_) (fun j => ?_))
  · rw [List.mem_filter, List.mem_range]; exact ⟨fun z => z.2, fun z => ⟨hn i z, z⟩⟩
  · rw [List.mem_filter, List.mem_range]; exact ⟨fun z => z.2, fun z => ⟨hm j z, z⟩⟩
