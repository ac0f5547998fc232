set_option maxRecDepth 100000
/-! ===== TreeMaps of things ===== -/
theorem perm_cnt {a b : va_W} (h : ∀ ct : va_W → Nat, (∀ x y, ct (x ++ y) = ct x + ct y) → ct [] = 0 → ct a = ct b) : a.Perm b := by
  letI : DecidableEq (Nat × va_E) := fun a b => Classical.propDecidable _
  exact List.perm_iff_count.mpr fun x => h (fun l => l.count x) (fun x y => List.count_append) rfl
/-- what lies at the key k of a map -/
def MoE {α : Type} (E : Nat → α → va_W → Prop) (f : Nat → Option Nat) (F : Nat → Option α) (k : Nat) (v : va_W) : Prop := (f k = none ∧ F k = none ∧ v = []) ∨ ∃ (a : Nat) (r : α), f k = some a ∧ F k = some r ∧ E a r v
/-- a TreeMap at t of things: by the key k one as F k says; n of them -/
def MoP (g : Gv) {α : Type} (E : Nat → α → va_W → Prop) (t : Nat) (F : Nat → Option α) (n : Nat) (w : va_W) : Prop := ∃ (f : Nat → Option Nat) (md : Nat) (w1 w2 : va_W), MapP g t f n md w1 ∧ (∀ k, 128 ≤ k → f k = none ∧ F k = none) ∧ Big 128 (MoE E f F) w2 ∧ w = ([w1, w2] : List va_W).flatten
section
variable {g : Gv} {α : Type} {E : Nat → α → va_W → Prop} {t : Nat} {F : Nat → Option α} {n : Nat} {w : va_W}
theorem MoP.hm (h : MoP g E t F n w) : ∃ fs, (t, .inr (27, fs)) ∈ w := by
  obtain ⟨f, md, w1, w2, h1, -, -, rfl⟩ := h
  obtain ⟨fs, hf⟩ := h1.hm
  exact ⟨fs, mem_fl2.mpr (Or.inl hf)⟩
theorem MoE.iff {f : Nat → Option Nat} {k : Nat} {v : va_W} (h : MoE E f F k v) : f k = none ↔ F k = none := by
  rcases h with ⟨h1, h2, -⟩ | ⟨a, r, h1, h2, -⟩
  · exact ⟨fun _ => h2, fun _ => h1⟩
  · rw [h1, h2]; exact ⟨fun z => (by cases z), fun z => (by cases z)⟩
theorem MoE.iffB {f : Nat → Option Nat} {w2 : va_W} (h : Big 128 (MoE E f F) w2) (ho : ∀ k, 128 ≤ k → f k = none ∧ F k = none) (k : Nat) : f k = none ↔ F k = none := by
  rcases Nat.lt_or_ge k 128 with hk | hk
  · obtain ⟨wi, hi, -⟩ := h.mem hk
    exact hi.iff
  · exact ⟨fun _ => (ho k hk).2, fun _ => (ho k hk).1⟩
theorem MoE.at {f : Nat → Option Nat} {w2 : va_W} (h : Big 128 (MoE E f F) w2) (ho : ∀ k, 128 ≤ k → f k = none ∧ F k = none) {k a : Nat} (hf : f k = some a) : ∃ r, F k = some r ∧ Sub (E a r) w2 := by
  rcases Nat.lt_or_ge k 128 with hk | hk
  · obtain ⟨u1, wi, u2, hi, -, rfl⟩ := h.opn hk
    rcases hi with ⟨h1, -, -⟩ | ⟨b, r, h1, h2, h3⟩
    · rw [hf] at h1; cases h1
    · rw [hf] at h1; cases h1
      exact ⟨r, h2, Sub.in (R := []) (L := [u1, wi, u2]) (by rw [List.append_nil]) rfl 1 rfl h3⟩
  · rw [(ho k hk).1] at hf; cases hf
theorem MoP.nil {m : Nat} (h : MapP g t (fun _ => none) n m w) : MoP g E t (fun _ => none) n w := by
  refine ⟨_, m, w, [], h, fun _ _ => ⟨rfl, rfl⟩, ⟨fun _ => [], fun i _ => Or.inl ⟨rfl, rfl, rfl⟩, ?_⟩, by simp⟩
  simp
theorem MoP.put (h : MoP g E t F n w) (J : Jd g) {k a : Nat} {r : α} {w1 : va_W} (he : E a r w1) (hk : k < 128) : Ct g yJ10_put (ws_ yJ10_put cJ10_put 3 (some (.object "java/lang/Object"))) 6 1 6 [.ref t, .ref (kI g k), .ref a] [w, w1] (fun rv L => ∃ (o : Option Nat) (u : va_W), rv = some (va_rf o) ∧ L = [u] ∧ MoP g E t (fup F k (some r)) (n + (if F k = none then 1 else 0)) u) noX := by
  obtain ⟨f, md, wm, wb, h1, h2, h3, rfl⟩ := h
  have hi := MoE.iffB h3 h2 k
  obtain ⟨x1, xk, x2, -, h4, rfl⟩ := h3.opn hk
  refine Ct.lift (ct_J10_put g J (v := a) h1 hk) [([x1, xk, x2] : List va_W).flatten, w1] (perm_cnt fun ct h h0 => by simp only [List.flatten_cons, List.flatten_nil, h, h0]; omega) ?_
  rintro v R ⟨n2, md2, u0, rfl, rfl, hu, hn2, -⟩
  refine ⟨[([u0, ([x1, w1, x2] : List va_W).flatten] : List va_W).flatten], xk, perm_cnt fun ct h h0 => (by simp only [List.flatten_cons, List.flatten_nil, List.flatten_append, h, h0]; omega), _, _, rfl, rfl, ?_⟩
  have e : n2 = n + (if F k = none then 1 else 0) := by
    rw [hn2]
    by_cases z : F k = none
    · rw [if_pos z, if_pos (hi.mpr z)]
    · rw [if_neg z, if_neg (fun q => z (hi.mp q))]
  rw [← e]
  refine ⟨_, md2, _, _, hu, fun j hj => ?_, h4 _ w1 (fun j hj hne v hv => ?_) (Or.inr ⟨a, r, fup_s _ _ _, fup_s _ _ _, he⟩), rfl⟩
  · rw [fup_n (by omega), fup_n (by omega)]; exact h2 j hj
  · unfold MoE; rw [fup_n hne, fup_n hne]; exact hv
theorem MoP.get (J : Jd g) {W : va_W} {k : Nat} (hS : Sub (MoP g E t F n) W) (hk : k < 128) : Ct g yJ10_get (ws_ yJ10_get cJ10_get 3 (some (.object "java/lang/Object"))) 4 0 0 [.ref t, .ref (kI g k)] [W] (fun rv L => ∃ o : Option Nat, rv = some (va_rf o) ∧ L = [W] ∧ (∀ a, o = some a → ∃ r, F k = some r ∧ Sub (E a r) W) ∧ (o = none → F k = none)) noX := by
  obtain ⟨w, R, hp, f, md, w1, w2, h1, h2, h3, rfl⟩ := hS
  have hp1 : W.Perm (w1 ++ (w2 ++ R)) := hp.trans (perm_cnt fun ct h h0 => by simp only [List.flatten_cons, List.flatten_nil, h, h0]; omega)
  refine Ct.lift (ct_J10_get_r g J h1 hk) [w2 ++ R] (sub_in 0 rfl hp1 rfl) ?_
  rintro v L ⟨rfl, rfl⟩
  refine ⟨_, [], sub_out 0 rfl hp1 rfl, _, rfl, rfl, fun a ha => ?_, fun hn => (MoE.iffB h3 h2 k).mp hn⟩
  obtain ⟨r, hr, hs⟩ := MoE.at h3 h2 ha
  exact ⟨r, hr, Sub.up (hp.trans (perm_cnt (b := w2 ++ (w1 ++ R)) fun ct h h0 => by simp only [List.flatten_cons, List.flatten_nil, h, h0]; omega)) hs⟩
theorem MoP.getS (J : Jd g) {W : va_W} {k : Nat} {r : α} (hS : Sub (MoP g E t F n) W) (hF : F k = some r) (hk : k < 128) : Ct g yJ10_get (ws_ yJ10_get cJ10_get 3 (some (.object "java/lang/Object"))) 4 0 0 [.ref t, .ref (kI g k)] [W] (fun rv L => ∃ a : Nat, rv = some (.ref a) ∧ L = [W] ∧ Sub (E a r) W) noX := by
  refine Ct.cq (MoP.get J hS hk) (List.Perm.refl _) ?_ noX_cq
  rintro v L ⟨o, rfl, rfl, h1, h2⟩
  cases o with
  | none => rw [h2 rfl] at hF; cases hF
  | some a =>
    obtain ⟨r2, h3, h4⟩ := h1 a rfl
    rw [hF] at h3; cases h3
    exact ⟨[W], [], by simp, a, rfl, rfl, h4⟩
theorem MoP.has (J : Jd g) {W : va_W} {k : Nat} (hS : Sub (MoP g E t F n) W) (hk : k < 128) : Ct g yJ10_containsKey (ws_ yJ10_containsKey cJ10_containsKey 2 (some .boolean)) 4 0 0 [.ref t, .ref (kI g k)] [W] (fun rv L => rv = some (.int (nI (if (F k).isSome = true then 1 else 0))) ∧ L = [W]) noX := by
  obtain ⟨w, R, hp, f, md, w1, w2, h1, h2, h3, rfl⟩ := hS
  have hp1 : W.Perm (w1 ++ (w2 ++ R)) := hp.trans (perm_cnt fun ct h h0 => by simp only [List.flatten_cons, List.flatten_nil, h, h0]; omega)
  have hi := MoE.iffB h3 h2 k
  have e : (f k).isSome = (F k).isSome := by
    cases e1 : f k <;> cases e2 : F k <;> simp_all
  refine Ct.lift (ct_J10_containsKey_r g J h1 hk) [w2 ++ R] (sub_in 0 rfl hp1 rfl) ?_
  rintro v L ⟨rfl, rfl⟩
  exact ⟨_, [], sub_out 0 rfl hp1 rfl, by rw [e], rfl⟩
theorem MoP.clear (h : MoP g E t F n w) (J : Jd g) : Ct g yJ10_clear (ws_ yJ10_clear cJ10_clear 1 none) 0 0 0 [.ref t] [w] (fun rv L => ∃ u : va_W, rv = none ∧ L = [u] ∧ MoP g E t (fun _ => none) 0 u) noX := by
  obtain ⟨f, md, wm, wb, h1, h2, h3, rfl⟩ := h
  refine Ct.lift (ct_J10_clear g J h1) [wb] (perm_cnt fun ct h h0 => by simp only [List.flatten_cons, List.flatten_nil, h, h0]; omega) ?_
  rintro v R ⟨u0, rfl, rfl, hu⟩
  exact ⟨[u0], wb, perm_cnt fun ct h h0 => (by simp only [List.flatten_cons, List.flatten_nil, List.flatten_append, h, h0]; omega), u0, rfl, rfl, MoP.nil hu⟩
theorem MoP.remove (h : MoP g E t F n w) (J : Jd g) {k : Nat} {r : α} (hF : F k = some r) (hk : k < 128) : Ct g yJ10_remove (ws_ yJ10_remove cJ10_remove 4 (some (.object "java/lang/Object"))) 4 0 0 [.ref t, .ref (kI g k)] [w] (fun rv L => ∃ (a n2 : Nat) (u u2 : va_W), rv = some (.ref a) ∧ L = [u, u2] ∧ MoP g E t (fup F k none) n2 u ∧ E a r u2) noX := by
  obtain ⟨f, md, wm, wb, h1, h2, h3, rfl⟩ := h
  obtain ⟨x1, xk, x2, hx, h4, rfl⟩ := h3.opn hk
  rcases hx with ⟨-, z, -⟩ | ⟨a, r2, ha, hr2, he⟩
  · rw [hF] at z; cases z
  rw [hF] at hr2; cases hr2
  refine Ct.lift (ct_J10_remove g J h1 hk) [([x1, xk, x2] : List va_W).flatten] (perm_cnt fun ct h h0 => by simp only [List.flatten_cons, List.flatten_nil, h, h0]; omega) ?_
  rintro v R ⟨n2, md2, u0, rfl, rfl, hu⟩
  refine ⟨[([u0, ([x1, [], x2] : List va_W).flatten] : List va_W).flatten, xk], [], perm_cnt fun ct h h0 => (by simp only [List.flatten_cons, List.flatten_nil, List.flatten_append, h, h0]; omega), a, n2, _, _, by rw [ha]; rfl, rfl, ?_, he⟩
  refine ⟨_, md2, _, _, hu, fun j hj => ?_, h4 _ [] (fun j hj hne v hv => ?_) (Or.inl ⟨fup_s _ _ _, fup_s _ _ _, rfl⟩), rfl⟩
  · rw [fup_n (by omega), fup_n (by omega)]; exact h2 j hj
  · unfold MoE; rw [fup_n hne, fup_n hne]; exact hv
theorem MoP.putAll {b : Nat} {w1 : va_W} (h : MoP g E t F n w1) (J : Jd g) (hb : MoP g E b (fun _ => none) 0 w) (hn4 : n ≤ 4) : Ct g yJ10_putAll (wsW_ yJ10_putAll cJ10_putAll 4 none [(54, 72, 75, 46), (54, 72, 75, 48)]) 11 (n + 2) (6 * n + 5) [.ref b, .ref t] [w, w1] (fun rv L => ∃ u : va_W, rv = none ∧ L = [u] ∧ MoP g E b F n u) noX := by
  obtain ⟨f, md, wm, wb, h1, h2, h3, rfl⟩ := h
  obtain ⟨fb, mdb, wmb, wbb, b1, b2, b3, rfl⟩ := hb
  have efb : fb = fun _ => none := by
    funext k
    exact (MoE.iffB b3 b2 k).mpr rfl
  subst efb
  refine Ct.lift (ct_J10_putAll g J b1 h1 hn4) [wb, wbb] (perm_cnt fun ct h h0 => by simp only [List.flatten_cons, List.flatten_nil, h, h0]; omega) ?_
  rintro v R ⟨md2, u0, u1, rfl, rfl, hu0, hu1⟩
  exact ⟨[([u0, wb] : List va_W).flatten], u1 ++ wbb, perm_cnt fun ct h h0 => (by simp only [List.flatten_cons, List.flatten_nil, List.flatten_append, h, h0]; omega), _, rfl, rfl, f, md2, u0, wb, hu0, h2, h3, rfl⟩
end
