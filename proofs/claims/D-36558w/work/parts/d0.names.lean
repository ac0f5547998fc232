set_option maxRecDepth 100000
/-! names of secrets: what a secret is made of, whatever its number -/
abbrev Nm : Type := List Nat
def nD (n : Nat) : Nm := [0, n]
def n1 (x : Nm) (l : Nat) : Nm := 1 :: l :: x
def n2 (x y : Nm) (l : Nat) : Nm := 2 :: l :: x.length :: (x ++ y)
theorem nD_i {a b : Nat} (h : nD a = nD b) : a = b := by unfold nD at h; simpa using h
theorem n1_i {x y : Nm} {l m : Nat} (h : n1 x l = n1 y m) : x = y ∧ l = m := by
  unfold n1 at h
  simp at h
  exact ⟨h.2, h.1⟩
theorem n2_i {x y x2 y2 : Nm} {l m : Nat} (h : n2 x y l = n2 x2 y2 m) : x = x2 ∧ y = y2 ∧ l = m := by
  unfold n2 at h
  simp at h
  obtain ⟨h1, h2, h3⟩ := h
  have h4 := List.append_inj h3 h2
  exact ⟨h4.1, h4.2, h1⟩
theorem nD_1 {a l : Nat} {x : Nm} : nD a ≠ n1 x l := by unfold nD n1; simp
theorem nD_2 {a l : Nat} {x y : Nm} : nD a ≠ n2 x y l := by unfold nD n2; simp
theorem n1_2 {m l : Nat} {z x y : Nm} : n1 z m ≠ n2 x y l := by unfold n1 n2; simp
/-- drawn names among these -/
def drN (A : List Nm) : Nat := A.countP fun x => x.head? == some 0
def nmS (A : List Nm) (s : Sec) : Nm := match s.2.1 with
  | none => nD (drN A)
  | some o => match s.2.2.1 with
    | none => n1 (A.getD o []) s.2.2.2
    | some q => n2 (A.getD o []) (A.getD q []) s.2.2.2
def nmsF : List Sec → List Nm → List Nm
  | [], A => A
  | s :: ss, A => nmsF ss (A ++ [nmS A s])
/-- the names of all secrets -/
def nms (ss : List Sec) : List Nm := nmsF ss []
theorem nmsF_app : ∀ (ss t : List Sec) (A : List Nm), nmsF (ss ++ t) A = nmsF t (nmsF ss A)
  | [], _, _ => rfl
  | s :: ss, t, A => nmsF_app ss t (A ++ [nmS A s])
theorem nms_app (ss : List Sec) (s : Sec) : nms (ss ++ [s]) = nms ss ++ [nmS (nms ss) s] := by
  unfold nms; rw [nmsF_app]; rfl
theorem nmsF_len : ∀ (ss : List Sec) (A : List Nm), (nmsF ss A).length = A.length + ss.length
  | [], _ => rfl
  | s :: ss, A => by
    show (nmsF ss (A ++ [nmS A s])).length = _
    rw [nmsF_len ss, List.length_append, List.length_cons, List.length_cons, List.length_nil]; omega
theorem nms_len (ss : List Sec) : (nms ss).length = ss.length := by unfold nms; rw [nmsF_len]; simp
theorem nmsF_pre : ∀ (ss : List Sec) (A : List Nm), ∃ B, nmsF ss A = A ++ B
  | [], A => ⟨[], by rw [List.append_nil]; rfl⟩
  | s :: ss, A => by
    obtain ⟨B, h⟩ := nmsF_pre ss (A ++ [nmS A s])
    exact ⟨nmS A s :: B, by show nmsF ss (A ++ [nmS A s]) = _; rw [h]; simp⟩
/-- the name of a secret -/
def nm (ss : List Sec) (i : Nat) : Nm := (nms ss).getD i []
theorem nm_ext {ss t : List Sec} {i : Nat} (h : i < ss.length) : nm (ss ++ t) i = nm ss i := by
  unfold nm
  have e : nms (ss ++ t) = nmsF t (nms ss) := by unfold nms; rw [nmsF_app]
  obtain ⟨B, hB⟩ := nmsF_pre t (nms ss)
  rw [e, hB, List.getD_eq_getElem?_getD, List.getD_eq_getElem?_getD, List.getElem?_append_left (by rw [nms_len]; exact h)]
theorem nm_new (ss : List Sec) (s : Sec) : nm (ss ++ [s]) ss.length = nmS (nms ss) s := by
  unfold nm
  rw [nms_app, List.getD_eq_getElem?_getD, List.getElem?_append_right (by rw [nms_len]; exact Nat.le_refl _), nms_len, Nat.sub_self]
  rfl
theorem nm_mem {ss : List Sec} {i : Nat} (h : i < ss.length) : nm ss i ∈ nms ss := by
  unfold nm
  rw [List.getD_eq_getElem?_getD, List.getElem?_eq_getElem (by rw [nms_len]; exact h)]
  exact List.getElem_mem _
theorem nm_of {ss : List Sec} {x : Nm} (h : x ∈ nms ss) : ∃ i, i < ss.length ∧ nm ss i = x := by
  obtain ⟨i, hi⟩ := List.getElem?_of_mem h
  have hl := get_lt2 hi
  rw [nms_len] at hl
  exact ⟨i, hl, by unfold nm; rw [List.getD_eq_getElem?_getD, hi]; rfl⟩
/-- each follows from earlier ones -/
def PkOk (ss : List Sec) : Prop := ∀ (i : Nat) (s : Sec) (o : Nat), ss[i]? = some s → s.2.1 = some o → o < i ∧ ∀ q, s.2.2.1 = some q → q < i
/-- the name of a key -/
def nmK (ss : List Sec) (K : Ky) : Nm := match K.2.1 with
  | none => n1 (nm ss K.1) K.2.2
  | some q => n2 (nm ss K.1) (nm ss q) K.2.2
def KyB (n : Nat) (K : Ky) : Prop := K.1 < n ∧ ∀ q, K.2.1 = some q → q < n
theorem nmK_ext {ss t : List Sec} {K : Ky} (h : KyB ss.length K) : nmK (ss ++ t) K = nmK ss K := by
  unfold nmK
  cases e : K.2.1 with
  | none => show n1 (nm (ss ++ t) K.1) K.2.2 = _; rw [nm_ext h.1]
  | some q => show n2 (nm (ss ++ t) K.1) (nm (ss ++ t) q) K.2.2 = _; rw [nm_ext h.1, nm_ext (h.2 q e)]
theorem nmS_k {ss : List Sec} {s : Sec} {K : Ky} (h : sKy s = some K) : nmS (nms ss) s = nmK ss K := by
  unfold sKy at h
  unfold nmS nmK
  cases e : s.2.1 with
  | none => rw [e] at h; cases h
  | some o =>
    rw [e] at h
    cases h
    rfl
theorem nmS_d {ss : List Sec} {s : Sec} (h : s.2.1 = none) : nmS (nms ss) s = nD (drN (nms ss)) := by unfold nmS; rw [h]
theorem split_at {ss : List Sec} {i : Nat} {s : Sec} (h : ss[i]? = some s) : ∃ a b, ss = a ++ [s] ++ b ∧ a.length = i := by
  have hl := get_lt2 h
  refine ⟨ss.take i, ss.drop (i + 1), ?_, by rw [List.length_take]; omega⟩
  have h1 : ss.take (i + 1) = ss.take i ++ [s] := by rw [List.take_add_one, h]; rfl
  rw [← h1, List.take_append_drop]
/-- the name of a secret that follows -/
theorem nm_at {ss : List Sec} (hP : PkOk ss) {i : Nat} {s : Sec} {K : Ky} (h : ss[i]? = some s) (hk : sKy s = some K) : nm ss i = nmK ss K ∧ KyB i K := by
  obtain ⟨a, b, e, ha⟩ := split_at h
  have hK : KyB i K := by
    unfold sKy at hk
    cases e2 : s.2.1 with
    | none => rw [e2] at hk; cases hk
    | some o =>
      rw [e2] at hk; cases hk
      have h1 := hP i s o h e2
      exact ⟨h1.1, h1.2⟩
  refine ⟨?_, hK⟩
  subst e
  rw [nm_ext (by simp; omega), ← ha, nm_new, nmS_k hk, List.append_assoc, nmK_ext (by rw [ha]; exact hK)]
theorem nm_dr {ss : List Sec} {i : Nat} {s : Sec} (h : ss[i]? = some s) (hd : s.2.1 = none) : nm ss i = nD (drN (nms (ss.take i))) := by
  obtain ⟨a, b, e, ha⟩ := split_at h
  subst e
  rw [nm_ext (by simp; omega), ← ha, nm_new, nmS_d hd, List.append_assoc, List.take_left]
theorem drN_app (A B : List Nm) : drN (A ++ B) = drN A + drN B := List.countP_append ..
theorem drN_1 (n : Nat) : drN [nD n] = 1 := rfl
theorem drN_k (ss : List Sec) (K : Ky) : drN [nmK ss K] = 0 := by
  unfold nmK
  cases K.2.1 <;> rfl
/-- names of drawn ones are small -/
theorem nm_small {ss : List Sec} {n : Nat} (h : nD n ∈ nms ss) : n < drN (nms ss) := by
  obtain ⟨i, hi, e⟩ := nm_of h
  obtain ⟨s, hs⟩ := get_ex hi
  obtain ⟨a, b, e2, ha⟩ := split_at hs
  have hb : nms ss = nms (a ++ [s]) ++ (nms ss).drop (a.length + 1) := by
    have e3 : nms ss = nmsF b (nms (a ++ [s])) := by rw [e2]; unfold nms; rw [nmsF_app]
    obtain ⟨B, hB⟩ := nmsF_pre b (nms (a ++ [s]))
    rw [e3, hB]
    have hl : (nms (a ++ [s])).length = a.length + 1 := by rw [nms_len]; simp
    rw [← hl, List.drop_left]
  cases e4 : s.2.1 with
  | none =>
    rw [nm_dr hs e4, e2, ← ha] at e
    have e5 : (a ++ [s] ++ b).take a.length = a := by rw [List.append_assoc, List.take_left]
    rw [e5] at e
    have e6 := nD_i e
    rw [hb, drN_app, nms_app, drN_app, nmS_d e4, drN_1]
    omega
  | some o =>
    exfalso
    have e5 : nm ss i = nmS (nms a) s := by
      rw [e2, nm_ext (by simp; omega), ← ha, nm_new]
    rw [e5] at e
    unfold nmS at e
    rw [e4] at e
    cases e6 : s.2.2.1 with
    | none => rw [e6] at e; exact nD_1 e.symm
    | some q => rw [e6] at e; exact nD_2 e.symm
/-- all names are different -/
def NmOk (ss : List Sec) : Prop := (nms ss).Nodup
theorem nm_get {ss : List Sec} {i : Nat} (h : i < ss.length) : (nms ss)[i]? = some (nm ss i) := by
  unfold nm
  rw [List.getD_eq_getElem?_getD, List.getElem?_eq_getElem (by rw [nms_len]; exact h)]; rfl
theorem nm_inj {ss : List Sec} (h : NmOk ss) {i j : Nat} (hi : i < ss.length) (hj : j < ss.length) (e : nm ss i = nm ss j) : i = j :=
  (List.getElem?_inj (by rw [nms_len]; exact hi) h).mp (by rw [nm_get hi, nm_get hj, e])
theorem nd_sn {α : Type} {A : List α} {x : α} (h : A.Nodup) (hx : x ∉ A) : (A ++ [x]).Nodup := by
  rw [List.nodup_append]
  exact ⟨h, by simp, fun a ha b hb => by simp at hb; rw [hb]; intro e; rw [e] at ha; exact hx ha⟩
theorem NmOk.drw {ss : List Sec} (h : NmOk ss) {s : Sec} (hs : s.2.1 = none) : NmOk (ss ++ [s]) := by
  unfold NmOk
  rw [nms_app, nmS_d hs]
  exact nd_sn h fun hm => by have := nm_small hm; omega
theorem fnd_no {ss : List Sec} {K : Ky} (h : fnd ss K = none) {i : Nat} {s : Sec} (hs : ss[i]? = some s) : sKy s ≠ some K := by
  intro e
  obtain ⟨a, b, e2, ha⟩ := split_at hs
  have h1 : fnd (a ++ [s]) K ≠ none := by
    rw [fnd_app, if_pos e]
    cases fnd a K <;> simp
  cases e3 : fnd (a ++ [s]) K with
  | none => exact h1 e3
  | some j =>
    have h2 := fnd_ext b _ e3
    rw [← e2, h] at h2
    cases h2
theorem fnd_at {ss : List Sec} {K : Ky} {i : Nat} (h : fnd ss K = some i) : ∃ s, ss[i]? = some s ∧ sKy s = some K := by
  have h1 := fnd_s h
  unfold dv at h1
  rw [List.mem_filterMap] at h1
  obtain ⟨⟨s, j⟩, h2, h3⟩ := h1
  cases e : sKy s with
  | none => rw [e] at h3; cases h3
  | some k =>
    rw [e] at h3
    cases h3
    have h4 := List.mem_zipIdx_iff_getElem?.mp h2
    exact ⟨s, h4, e⟩
theorem nmK_inj {ss : List Sec} (h : NmOk ss) {K K2 : Ky} (h1 : KyB ss.length K) (h2 : KyB ss.length K2) (e : nmK ss K = nmK ss K2) : K = K2 := by
  obtain ⟨a, q, l⟩ := K
  obtain ⟨a2, q2, l2⟩ := K2
  unfold nmK at e
  cases q with
  | none =>
    cases q2 with
    | none =>
      have h3 := n1_i e
      have h4 : a = a2 := nm_inj h h1.1 h2.1 h3.1
      have h5 : l = l2 := h3.2
      rw [h4, h5]
    | some p => exact absurd e n1_2
  | some p =>
    cases q2 with
    | none => exact absurd e.symm n1_2
    | some p2 =>
      have h3 := n2_i e
      have h4 : a = a2 := nm_inj h h1.1 h2.1 h3.1
      have h6 : p = p2 := nm_inj h (h1.2 p rfl) (h2.2 p2 rfl) h3.2.1
      have h5 : l = l2 := h3.2.2
      rw [h4, h5, h6]
theorem NmOk.key {ss : List Sec} (h : NmOk ss) (hP : PkOk ss) {K : Ky} (hK : KyB ss.length K) (hn : fnd ss K = none) {s : Sec} (hs : sKy s = some K) : NmOk (ss ++ [s]) := by
  unfold NmOk
  rw [nms_app, nmS_k hs]
  refine nd_sn h fun hm => ?_
  obtain ⟨i, hi, e⟩ := nm_of hm
  obtain ⟨t, ht⟩ := get_ex hi
  cases e2 : sKy t with
  | none =>
    have e3 : t.2.1 = none := by
      unfold sKy at e2
      cases e4 : t.2.1 with
      | none => rfl
      | some o => rw [e4] at e2; cases e2
    rw [nm_dr ht e3] at e
    unfold nmK at e
    cases e5 : K.2.1 with
    | none => rw [e5] at e; exact nD_1 e
    | some q => rw [e5] at e; exact nD_2 e
  | some K2 =>
    obtain ⟨h1, h2⟩ := nm_at hP ht e2
    rw [h1] at e
    have h3 : KyB ss.length K2 := ⟨by have := h2.1; omega, fun q hq => by have := h2.2 q hq; omega⟩
    have h4 := nmK_inj h h3 hK e
    exact fnd_no hn ht (h4 ▸ e2)
theorem PkOk.app {ss : List Sec} (h : PkOk ss) {s : Sec} (hs : ∀ o, s.2.1 = some o → o < ss.length ∧ ∀ q, s.2.2.1 = some q → q < ss.length) : PkOk (ss ++ [s]) := by
  intro i t o ht ho
  rcases Nat.lt_or_ge i ss.length with z | z
  · rw [List.getElem?_append_left z] at ht; exact h i t o ht ho
  · rw [List.getElem?_append_right z] at ht
    have hl := get_lt2 ht
    have e : i = ss.length := by simp at hl; omega
    rw [e, Nat.sub_self] at ht
    cases ht
    rw [e]; exact hs o ho
/-- values follow from the names and from what was drawn -/
def VlOk (ss : List Sec) : Prop := ∀ (i : Nat) (s : Sec) (K : Ky), ss[i]? = some s → sKy s = some K → s.1 = fvl ss K
def dVs (ss : List Sec) : List Int32 := (ss.filter fun s => s.2.1.isNone).map (·.1)
theorem vl_ext {ss t : List Sec} {i : Nat} (h : i < ss.length) : vl (ss ++ t) i = vl ss i := by unfold vl; rw [List.getElem?_append_left h]
theorem fvl_ext {ss t : List Sec} {K : Ky} (h : KyB ss.length K) : fvl (ss ++ t) K = fvl ss K := by
  unfold fvl
  cases e : K.2.1 with
  | none => show mixI (vl (ss ++ t) K.1) _ = _; rw [vl_ext h.1]
  | some q => show mixI (mixI (vl (ss ++ t) K.1) (vl (ss ++ t) q)) _ = _; rw [vl_ext h.1, vl_ext (h.2 q e)]
/-- what holds of the secrets all the time -/
def ScOk (ss : List Sec) : Prop := NmOk ss ∧ PkOk ss ∧ VlOk ss
theorem ScOk_0 : ScOk [] := ⟨List.nodup_nil, fun i s o h => by simp at h, fun i s K h => by simp at h⟩
theorem ScOk.drw {ss : List Sec} (h : ScOk ss) {s : Sec} (hs : s.2.1 = none) : ScOk (ss ++ [s]) := by
  refine ⟨h.1.drw hs, h.2.1.app (fun o ho => by rw [hs] at ho; cases ho), fun i t K ht hK => ?_⟩
  rcases Nat.lt_or_ge i ss.length with z | z
  · rw [List.getElem?_append_left z] at ht
    have h1 := (nm_at h.2.1 ht hK).2
    rw [fvl_ext ⟨by have := h1.1; omega, fun q hq => by have := h1.2 q hq; omega⟩]
    exact h.2.2 i t K ht hK
  · rw [List.getElem?_append_right z] at ht
    have hl := get_lt2 ht
    have e : i = ss.length := by simp at hl; omega
    rw [e, Nat.sub_self] at ht
    cases ht
    unfold sKy at hK; rw [hs] at hK; cases hK
theorem ScOk.key {ss : List Sec} (h : ScOk ss) {K : Ky} (hK : KyB ss.length K) (hn : fnd ss K = none) : ScOk (ss ++ [(fvl ss K, some K.1, K.2.1, K.2.2)]) := by
  have hs : sKy ((fvl ss K, some K.1, K.2.1, K.2.2) : Sec) = some K := rfl
  refine ⟨h.1.key h.2.1 hK hn hs, h.2.1.app (fun o ho => by cases ho; exact ⟨hK.1, hK.2⟩), fun i t K2 ht hK2 => ?_⟩
  rcases Nat.lt_or_ge i ss.length with z | z
  · rw [List.getElem?_append_left z] at ht
    have h1 := (nm_at h.2.1 ht hK2).2
    rw [fvl_ext ⟨by have := h1.1; omega, fun q hq => by have := h1.2 q hq; omega⟩]
    exact h.2.2 i t K2 ht hK2
  · rw [List.getElem?_append_right z] at ht
    have hl := get_lt2 ht
    have e : i = ss.length := by simp at hl; omega
    rw [e, Nat.sub_self] at ht
    cases ht
    rw [hs] at hK2
    cases hK2
    exact (fvl_ext hK).symm
/-- what follows, by names -/
theorem frm_nm {ss s2 : List Sec} {K : Ky} {i : Nat} (h : ScOk ss) (hK : KyB ss.length K) (hf : frm ss K = (s2, i)) : ScOk s2 ∧ nm s2 i = nmK ss K ∧ (∀ j, j < ss.length → nm s2 j = nm ss j ∧ vl s2 j = vl ss j) ∧ (∀ x, x ∈ nms s2 ↔ x ∈ nms ss ∨ x = nmK ss K) ∧ dVs s2 = dVs ss ∧ i < s2.length ∧ ss.length ≤ s2.length := by
  cases e : fnd ss K with
  | some j =>
    rw [frm_s e] at hf
    cases hf
    obtain ⟨s, hs, hk⟩ := fnd_at e
    have h1 := nm_at h.2.1 hs hk
    have hl := get_lt2 hs
    refine ⟨h, h1.1, fun j _ => ⟨rfl, rfl⟩, fun x => ⟨Or.inl, fun z => z.elim id fun y => ?_⟩, rfl, hl, Nat.le_refl _⟩
    rw [y, ← h1.1]; exact nm_mem hl
  | none =>
    rw [frm_n e] at hf
    cases hf
    have hs : sKy ((fvl ss K, some K.1, K.2.1, K.2.2) : Sec) = some K := rfl
    refine ⟨h.key hK e, by rw [nm_new, nmS_k hs], fun j hj => ⟨nm_ext hj, vl_ext hj⟩, fun x => ?_, ?_, by simp, by simp⟩
    · rw [nms_app, nmS_k hs, List.mem_append, List.mem_singleton]
    · unfold dVs; rw [List.filter_append, List.map_append]; simp
theorem drw_nm {ss : List Sec} {s : Sec} (h : ScOk ss) (hs : s.2.1 = none) : ScOk (ss ++ [s]) ∧ nm (ss ++ [s]) ss.length = nD (drN (nms ss)) ∧ (∀ j, j < ss.length → nm (ss ++ [s]) j = nm ss j ∧ vl (ss ++ [s]) j = vl ss j) ∧ (∀ x, x ∈ nms (ss ++ [s]) ↔ x ∈ nms ss ∨ x = nD (drN (nms ss))) ∧ dVs (ss ++ [s]) = dVs ss ++ [s.1] := by
  refine ⟨h.drw hs, by rw [nm_new, nmS_d hs], fun j hj => ⟨nm_ext hj, vl_ext hj⟩, fun x => ?_, ?_⟩
  · rw [nms_app, nmS_d hs, List.mem_append, List.mem_singleton]
  · unfold dVs; rw [List.filter_append, List.map_append]; simp [hs]
/-- the number of drawn names is how many were drawn -/
theorem drN_len : ∀ (ss : List Sec), drN (nms ss) = (dVs ss).length := by
  intro ss
  suffices h : ∀ (t a : List Sec), drN (nms a) = (dVs a).length → drN (nms (a ++ t)) = (dVs (a ++ t)).length by
    have h2 := h ss [] rfl
    rw [List.nil_append] at h2
    exact h2
  intro t
  induction t with
  | nil => intro a h; rw [List.append_nil]; exact h
  | cons s t ih =>
    intro a h
    have e : a ++ s :: t = (a ++ [s]) ++ t := by simp
    rw [e]
    refine ih _ ?_
    rw [nms_app, drN_app]
    unfold dVs
    rw [List.filter_append, List.map_append, List.length_append]
    have h1 : drN (nms a) = ((a.filter fun s => s.2.1.isNone).map (·.1)).length := h
    rw [h1]
    congr 1
    cases e2 : s.2.1 with
    | none => rw [nmS_d e2, drN_1]; simp [e2]
    | some o =>
      have e3 : sKy s = some (o, s.2.2.1, s.2.2.2) := by unfold sKy; rw [e2]; rfl
      rw [nmS_k e3, drN_k]; simp [e2]
/-- the value of a drawn one -/
theorem dr_vl {ss : List Sec} {i : Nat} {s : Sec} (h : ss[i]? = some s) (hd : s.2.1 = none) : (dVs ss)[drN (nms (ss.take i))]? = some s.1 := by
  obtain ⟨a, b, e, ha⟩ := split_at h
  subst e
  have e5 : (a ++ [s] ++ b).take i = a := by rw [List.append_assoc, ← ha, List.take_left]
  rw [e5, drN_len]
  unfold dVs
  rw [List.filter_append, List.filter_append, List.map_append, List.map_append, List.append_assoc, List.getElem?_append_right (Nat.le_refl _), Nat.sub_self]
  simp [hd]
/-- equal names, equal values -/
theorem vl_nm {ss tt : List Sec} (hs : ScOk ss) (ht : ScOk tt) (hd : dVs ss = dVs tt) : ∀ (i j : Nat), i < ss.length → j < tt.length → nm ss i = nm tt j → vl ss i = vl tt j := by
  intro i
  induction i using Nat.strongRecOn with
  | _ i ih =>
    intro j hi hj e
    obtain ⟨s, h1⟩ := get_ex hi
    obtain ⟨t, h2⟩ := get_ex hj
    rw [vl_eq h1, vl_eq h2]
    cases e1 : sKy s with
    | none =>
      have d1 : s.2.1 = none := by
        unfold sKy at e1
        cases e4 : s.2.1 with
        | none => rfl
        | some o => rw [e4] at e1; cases e1
      rw [nm_dr h1 d1] at e
      cases e2 : sKy t with
      | none =>
        have d2 : t.2.1 = none := by
          unfold sKy at e2
          cases e4 : t.2.1 with
          | none => rfl
          | some o => rw [e4] at e2; cases e2
        rw [nm_dr h2 d2] at e
        have e3 := nD_i e
        have v1 := dr_vl h1 d1
        have v2 := dr_vl h2 d2
        rw [e3, hd, v2] at v1
        exact (Option.some.inj v1).symm
      | some K =>
        rw [(nm_at ht.2.1 h2 e2).1] at e
        unfold nmK at e
        cases e5 : K.2.1 with
        | none => rw [e5] at e; exact absurd e nD_1
        | some q => rw [e5] at e; exact absurd e nD_2
    | some K =>
      obtain ⟨k1, k2⟩ := nm_at hs.2.1 h1 e1
      rw [k1] at e
      cases e2 : sKy t with
      | none =>
        have d2 : t.2.1 = none := by
          unfold sKy at e2
          cases e4 : t.2.1 with
          | none => rfl
          | some o => rw [e4] at e2; cases e2
        rw [nm_dr h2 d2] at e
        unfold nmK at e
        cases e5 : K.2.1 with
        | none => rw [e5] at e; exact absurd e.symm nD_1
        | some q => rw [e5] at e; exact absurd e.symm nD_2
      | some K2 =>
        obtain ⟨m1, m2⟩ := nm_at ht.2.1 h2 e2
        rw [m1] at e
        rw [hs.2.2 i s K h1 e1, ht.2.2 j t K2 h2 e2]
        unfold nmK at e
        unfold fvl
        cases e5 : K.2.1 with
        | none =>
          rw [e5] at e
          cases e6 : K2.2.1 with
          | none =>
            rw [e6] at e
            have e7 := n1_i e
            have e8 := ih K.1 k2.1 K2.1 (by have := k2.1; omega) (by have := m2.1; omega) e7.1
            show mixI (vl ss K.1) (nI K.2.2) = mixI (vl tt K2.1) (nI K2.2.2)
            rw [e8, e7.2]
          | some q => rw [e6] at e; exact absurd e n1_2
        | some p =>
          rw [e5] at e
          cases e6 : K2.2.1 with
          | none => rw [e6] at e; exact absurd e.symm n1_2
          | some p2 =>
            rw [e6] at e
            have e7 := n2_i e
            have e8 := ih K.1 k2.1 K2.1 (by have := k2.1; omega) (by have := m2.1; omega) e7.1
            have e9 := ih p (k2.2 p e5) p2 (by have := k2.2 p e5; omega) (by have := m2.2 p2 e6; omega) e7.2.1
            show mixI (mixI (vl ss K.1) (vl ss p)) (nI K.2.2) = mixI (mixI (vl tt K2.1) (vl tt p2)) (nI K2.2.2)
            rw [e8, e9, e7.2.2]
