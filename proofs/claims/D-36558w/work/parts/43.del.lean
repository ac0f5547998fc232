set_option maxRecDepth 100000
section
variable {ns : List Nat} {key : Nat → Nat} {l r p : Nat → Option Nat} {lo hi : Nat → Nat} {root : Option Nat} {M : Nat}
/-- a place without children goes -/
theorem tr_cut (h : Tr ns key l r p lo hi root M) {a b : Nat} {ns2 : List Nat} (hm : ∀ d, d ∈ ns2 ↔ d ∈ ns ∧ d ≠ a) (ha : a ∈ ns) (h1 : l a = none) (h2 : r a = none) (hb : p a = some b) : Tr ns2 key (if l b = some a then fup l b none else l) (if l b = some a then r else fup r b none) p lo hi root M := by
  have hlr := tr_lr (x := a) (b := b) h
  obtain ⟨g1, g2, g3, g4, g5, g6, g7, g8, g9, g10⟩ := h
  have q1 := g8 a ha b hb
  have q2 := g3 a ha h1
  have q3 := g5 a ha h2
  have q4 := g2 a ha
  have q5 := g2 b q1.1
  have q6 := g4 b q1.1 a
  have q7 := g6 b q1.1 a
  have hab : a ≠ b := by rintro rfl; grind
  by_cases e : l b = some a
  · rw [if_pos e, if_pos e]
    refine ⟨?_, ?_, ?_, ?_, ?_, ?_, ?_, ?_, ?_, ?_⟩
    · grind
    · grind
    · grind [fup]
    · grind [fup]
    · grind
    · grind
    · grind
    · grind [fup]
    · grind
    · grind
  · have e2 := q1.2.resolve_left e
    rw [if_neg e, if_neg e]
    refine ⟨?_, ?_, ?_, ?_, ?_, ?_, ?_, ?_, ?_, ?_⟩
    · grind
    · grind
    · grind
    · grind
    · grind [fup]
    · grind [fup]
    · grind
    · grind [fup]
    · grind
    · grind
/-- the one child of a place takes its place -/
def lfP (p : Nat → Option Nat) (a x : Nat) : Nat → Option Nat := fun d => if d = x then p a else p d
def lfC (f p : Nat → Option Nat) (a x : Nat) : Nat → Option Nat := fun d => if p a = some d ∧ f d = some a then some x else f d
def lfRoot (root : Option Nat) (p : Nat → Option Nat) (a x : Nat) : Option Nat := if p a = none then some x else root
theorem tr_liftL (h : Tr ns key l r p lo hi root M) {a x : Nat} {ns2 : List Nat} (hm : ∀ d, d ∈ ns2 ↔ d ∈ ns ∧ d ≠ a) (ha : a ∈ ns) (h1 : l a = some x) (h2 : r a = none) : Tr ns2 key (lfC l p a x) (lfC r p a x) (lfP p a x) lo (fun d => if hi d = key a then hi a else hi d) (lfRoot root p a x) M := by
  have hlr := fun b => tr_lr (b := b) (x := a) h
  have hr := fun c => h.2.2.2.2.2.2.2.2.2 c
  obtain ⟨g1, g2, g3, g4, g5, g6, g7, g8, g9, g10⟩ := h
  have q1 := g4 a ha x h1
  have q2 := g5 a ha h2
  have q4 := g2 a ha
  have q5 := g2 x q1.1
  have hax : a ≠ x := by rintro rfl; omega
  have q6 := g8 a ha
  refine ⟨?_, ?_, ?_, ?_, ?_, ?_, ?_, ?_, ?_, ?_⟩
  · grind
  · grind
  · grind [lfC]
  · intro d hd e he
    have w := (hm d).mp hd
    have w1 := g4 d w.1
    have w2 := g2 d w.1
    unfold lfC at he
    split at he
    · cases he; grind [lfP, fup]
    · have := w1 e he; grind [lfP, fup]
  · grind [lfC]
  · intro d hd e he
    have w := (hm d).mp hd
    have w1 := g6 d w.1
    have w2 := g2 d w.1
    unfold lfC at he
    split at he
    · cases he; grind [lfP, fup]
    · have := w1 e he; grind [lfP, fup]
  · grind [lfP, lfRoot, fup]
  · intro d hd e he
    have w := (hm d).mp hd
    unfold lfP at he
    split at he
    · have w1 := g8 a ha e he
      have w2 := g2 e w1.1
      have w3 := g4 e w1.1
      have w4 := g6 e w1.1
      grind [lfC]
    · have w1 := g8 d w.1 e he
      grind [lfC]
  · grind [lfRoot]
  · grind [lfRoot, lfP, fup]
theorem tr_liftR (h : Tr ns key l r p lo hi root M) {a x : Nat} {ns2 : List Nat} (hm : ∀ d, d ∈ ns2 ↔ d ∈ ns ∧ d ≠ a) (ha : a ∈ ns) (h1 : l a = none) (h2 : r a = some x) : Tr ns2 key (lfC l p a x) (lfC r p a x) (lfP p a x) (fun d => if lo d = key a + 1 then lo a else lo d) hi (lfRoot root p a x) M := by
  have hlr := fun b => tr_lr (b := b) (x := a) h
  obtain ⟨g1, g2, g3, g4, g5, g6, g7, g8, g9, g10⟩ := h
  have q1 := g6 a ha x h2
  have q2 := g3 a ha h1
  have q4 := g2 a ha
  have q5 := g2 x q1.1
  have hax : a ≠ x := by rintro rfl; omega
  have q6 := g8 a ha
  refine ⟨?_, ?_, ?_, ?_, ?_, ?_, ?_, ?_, ?_, ?_⟩
  · grind
  · grind
  · grind [lfC]
  · intro d hd e he
    have w := (hm d).mp hd
    have w1 := g4 d w.1
    have w2 := g2 d w.1
    unfold lfC at he
    split at he
    · cases he; grind [lfP, fup]
    · have := w1 e he; grind [lfP, fup]
  · grind [lfC]
  · intro d hd e he
    have w := (hm d).mp hd
    have w1 := g6 d w.1
    have w2 := g2 d w.1
    unfold lfC at he
    split at he
    · cases he; grind [lfP, fup]
    · have := w1 e he; grind [lfP, fup]
  · grind [lfP, lfRoot, fup]
  · intro d hd e he
    have w := (hm d).mp hd
    unfold lfP at he
    split at he
    · have w1 := g8 a ha e he
      have w2 := g2 e w1.1
      have w3 := g4 e w1.1
      have w4 := g6 e w1.1
      grind [lfC]
    · have w1 := g8 d w.1 e he
      grind [lfC]
  · grind [lfRoot]
  · grind [lfRoot, lfP, fup]
theorem tr_hi (h : Tr ns key l r p lo hi root M) : ∀ (N a : Nat), a ∈ ns → M - wid lo hi (some a) ≤ N → hi a = M ∨ ∃ c ∈ ns, hi a = key c := by
  intro N
  induction N with
  | zero =>
    intro a ha hN
    have q := h.2.1 a ha
    simp only [wid] at hN
    omega
  | succ N ih =>
    intro a ha hN
    cases e : p a with
    | none => exact Or.inl (h.2.2.2.2.2.2.2.2.2 a (h.2.2.2.2.2.2.1 a ha e)).2.2.2
    | some b =>
      have q1 := h.2.2.2.2.2.2.2.1 a ha b e
      have q2 := wid_p h ha e
      have q3 := h.2.1 b q1.1
      rcases q1.2 with e | e
      · exact Or.inr ⟨b, q1.1, (h.2.2.2.1 b q1.1 a e).2.2.2⟩
      · rw [(h.2.2.2.2.2.1 b q1.1 a e).2.2.2]
        refine ih b q1.1 ?_
        simp only [wid] at hN q2 ⊢
        omega
theorem tr_low (h : Tr ns key l r p lo hi root M) : ∀ (N a : Nat), a ∈ ns → M - wid lo hi (some a) ≤ N → lo a = 0 ∨ ∃ c ∈ ns, lo a = key c + 1 := by
  intro N
  induction N with
  | zero =>
    intro a ha hN
    have q := h.2.1 a ha
    simp only [wid] at hN
    omega
  | succ N ih =>
    intro a ha hN
    cases e : p a with
    | none => exact Or.inl (h.2.2.2.2.2.2.2.2.2 a (h.2.2.2.2.2.2.1 a ha e)).2.2.1
    | some b =>
      have q1 := h.2.2.2.2.2.2.2.1 a ha b e
      have q2 := wid_p h ha e
      have q3 := h.2.1 b q1.1
      rcases q1.2 with e | e
      · rw [(h.2.2.2.1 b q1.1 a e).2.2.1]
        refine ih b q1.1 ?_
        simp only [wid] at hN q2 ⊢
        omega
      · exact Or.inr ⟨b, q1.1, (h.2.2.2.2.2.1 b q1.1 a e).2.2.1⟩
/-- a key grows, up to no other one -/
theorem tr_ren (h : Tr ns key l r p lo hi root M) {a k : Nat} (ha : a ∈ ns) (h1 : key a < k) (hk : k < M) (h2 : ∀ b ∈ ns, key a < key b → k < key b) : Tr ns (fup key a k) l r p (fun d => if lo d = key a + 1 then k + 1 else lo d) (fun d => if hi d = key a then k else hi d) root M := by
  have q0 : k < hi a := by
    rcases tr_hi h _ a ha (Nat.le_refl _) with e | ⟨c, hc, e⟩
    · omega
    · rw [e]; exact h2 c hc (by have := h.2.1 a ha; omega)
  have ql : ∀ d ∈ ns, lo d ≤ k → lo d = key a + 1 ∨ lo d ≤ key a := by
    intro d hd hlk
    rcases tr_low h _ d hd (Nat.le_refl _) with e | ⟨c, hc, e⟩
    · right; omega
    · have := h2 c hc; omega
  obtain ⟨g1, g2, g3, g4, g5, g6, g7, g8, g9, g10⟩ := h
  have q1 := g2 a ha
  have nk : ∀ b ∈ ns, b ≠ a → key b ≠ key a := fun b hb e z => e (g1 b hb a ha z)
  refine ⟨?_, ?_, ?_, ?_, ?_, ?_, g7, g8, g9, ?_⟩
  · intro c hc d hd e
    by_cases e1 : c = a <;> by_cases e2 : d = a
    · rw [e1, e2]
    · subst e1; rw [fup_s, fup_n e2] at e; have := h2 d hd; omega
    · subst e2; rw [fup_s, fup_n e1] at e; have := h2 c hc; omega
    · rw [fup_n e1, fup_n e2] at e; exact g1 c hc d hd e
  · intro d hd
    have w := g2 d hd
    have w2 := h2 d hd
    have w3 := nk d hd
    by_cases e : d = a
    · subst e; rw [fup_s]; refine ⟨?_, ?_, ?_⟩ <;> grind
    · rw [fup_n e]; refine ⟨?_, ?_, ?_⟩ <;> grind
  · intro d hd hl b hb z1 z2
    have w := g3 d hd hl b hb
    have w0 := g2 d hd
    have w2 := h2 d hd
    have w3 := h2 b hb
    have w4 := nk b hb
    have w5 := nk d hd
    have w6 := ql d hd
    grind [fup]
  · intro d hd b e
    have w := g4 d hd b e
    have w5 := nk d hd
    have w6 := nk b w.1
    grind [fup]
  · intro d hd hl b hb z1 z2
    have w := g5 d hd hl b hb
    have w0 := g2 d hd
    have w2 := h2 d hd
    have w3 := h2 b hb
    have w4 := nk b hb
    have w5 := nk d hd
    grind [fup]
  · intro d hd b e
    have w := g6 d hd b e
    have w5 := nk d hd
    have w6 := nk b w.1
    grind [fup]
  · intro d e
    have w := g10 d e
    refine ⟨w.1, w.2.1, ?_, ?_⟩ <;> grind
theorem tr_alone (h : Tr ns key l r p lo hi root M) {a : Nat} (ha : a ∈ ns) (h1 : l a = none) (h2 : r a = none) (hp : p a = none) : ∀ b ∈ ns, b = a := by
  have q := h.2.2.2.2.2.2.2.2.2 a (h.2.2.2.2.2.2.1 a ha hp)
  intro b hb
  have q1 := h.2.2.1 a ha h1 b hb
  have q2 := h.2.2.2.2.1 a ha h2 b hb
  have q3 := h.2.1 b hb
  refine h.1 b hb a ha ?_
  rcases Nat.lt_trichotomy (key b) (key a) with e | e | e
  · exact (q1 (by omega) e).elim
  · exact e
  · exact (q2 e (by omega)).elim
end
/-- d goes out of the tree for a: itself, or its successor, whose key and value have gone over to a -/
def Dl (ns : List Nat) (key val : Nat → Nat) (l r : Nat → Option Nat) (a d : Nat) (kc vc : Nat → Nat) : Prop := (d = a ∧ kc = key ∧ vc = val ∧ ¬ (l a ≠ none ∧ r a ≠ none)) ∨ (d ≠ a ∧ (l a ≠ none ∧ r a ≠ none) ∧ Lf ns key (key a + 1) (some d) ∧ kc = fup key a (key d) ∧ vc = fup val a (val d))
/-- what stands behind a deletion -/
def Dn (ns : List Nat) (key val : Nat → Nat) (two : Prop) (a : Nat) (ns2 : List Nat) (kc vc : Nat → Nat) : Prop := ns2.length + 1 = ns.length ∧ (∀ f, MF ns key val f → MF ns2 kc vc (fup f (key a) none)) ∧ (∀ e, Lf ns key (key a + 1) e → (two → Lf ns2 kc (key a + 1) (some a)) ∧ (¬ two → Lf ns2 kc (key a + 1) e))
theorem dl_fin {ns ns2 : List Nat} {key val kc vc : Nat → Nat} {l r l2 r2 p2 : Nat → Option Nat} {lo2 hi2 : Nat → Nat} {root2 : Option Nat} {M a d : Nat} (hki : ∀ b ∈ ns, ∀ c ∈ ns, key b = key c → b = c) (hkM : ∀ b ∈ ns, key b < M) (ha : a ∈ ns) (hd : d ∈ ns) (hD : Dl ns key val l r a d kc vc) (hlen : ns2.length + 1 = ns.length) (hm : ∀ b, b ∈ ns2 ↔ b ∈ ns ∧ b ≠ d) (hT : Tr ns2 key l2 r2 p2 lo2 hi2 root2 M) : (∃ lo3 hi3, Tr ns2 kc l2 r2 p2 lo3 hi3 root2 M) ∧ Dn ns key val (l a ≠ none ∧ r a ≠ none) a ns2 kc vc := by
  rcases hD with ⟨rfl, rfl, rfl, h2⟩ | ⟨hne, h2, hL, rfl, rfl⟩
  · refine ⟨⟨lo2, hi2, hT⟩, hlen, fun f hF => ⟨fun b hb => ?_, fun k v e => ?_⟩, fun e he => ⟨fun z => absurd z h2, fun _ => ⟨fun b hb => ?_, fun z b hb => he.2 z b ((hm b).mp hb).1⟩⟩⟩
    · have w := (hm b).mp hb
      rw [fup_n (fun z => w.2 (hki b w.1 d ha z))]; exact hF.1 b w.1
    · by_cases z : k = kc d
      · rw [z, fup_s] at e; cases e
      · rw [fup_n z] at e
        obtain ⟨b, hb, hk⟩ := hF.2 k v e
        exact ⟨b, (hm b).mpr ⟨hb, fun q => z (by rw [← hk, q])⟩, hk⟩
    · have w := he.1 b hb
      exact ⟨(hm b).mpr ⟨w.1, fun q => by rw [q] at w; omega⟩, w.2.1, fun c hc => w.2.2 c ((hm c).mp hc).1⟩
  · have w := hL.1 d rfl
    have ha2 : a ∈ ns2 := (hm a).mpr ⟨ha, Ne.symm hne⟩
    have hlt : ∀ b ∈ ns2, key a < key b → key d < key b := fun b hb z => by
      have w1 := (hm b).mp hb
      have w2 := w.2.2 b w1.1 (by omega)
      have w3 : key b ≠ key d := fun q => w1.2 (hki b w1.1 d hd q)
      omega
    refine ⟨⟨_, _, tr_ren hT ha2 (by omega) (hkM d hd) hlt⟩, hlen, fun f hF => ⟨fun b hb => ?_, fun k v e => ?_⟩, fun e he => ⟨fun _ => ⟨fun b hb => ?_, fun z => by cases z⟩, fun z => absurd h2 z⟩⟩
    · have w1 := (hm b).mp hb
      by_cases z : b = a
      · subst z
        rw [fup_s, fup_s, fup_n (by omega)]; exact hF.1 d hd
      · rw [fup_n z, fup_n z, fup_n (fun q => z (hki b w1.1 a ha q))]; exact hF.1 b w1.1
    · by_cases z : k = key a
      · rw [z, fup_s] at e; cases e
      · rw [fup_n z] at e
        obtain ⟨b, hb, hk⟩ := hF.2 k v e
        by_cases z2 : b = d
        · exact ⟨a, ha2, by rw [fup_s, ← hk, z2]⟩
        · have z3 : b ≠ a := fun q => z (by rw [← hk, q])
          exact ⟨b, (hm b).mpr ⟨hb, z2⟩, by rw [fup_n z3]; exact hk⟩
    · cases hb
      rw [fup_s]
      refine ⟨ha2, by omega, fun c hc hz => ?_⟩
      by_cases z : c = a
      · rw [z, fup_s]; exact Nat.le_refl _
      · rw [fup_n z] at hz ⊢
        have := hlt c hc (by omega)
        omega
theorem g_sub {g : Gv} {κ : Kx} {pc : Nat} {lv : List (Option Value)} {st : List Value} {L : List va_W} {kc ks : Nat} (k : Nat) {w w2 R : va_W} {L2 : List va_W} (hL : L[k]? = some w) (hp : w.Perm (w2 ++ R)) (h2 : L.set k w2 = L2) (kk : Go g κ pc lv st L2 kc ks) : Go g κ pc lv st L kc ks := by
  obtain ⟨p, l, e, R0, s, m, args, below, meth, c, A, mc, ms, Q⟩ := κ
  intro H locs cells slots ls h1 hh2 h3 h4 h5
  refine kk H locs cells slots ls h1 hh2 h3 (h4.to (R := R) ?_) h5
  subst h2
  clear h4 kk h5
  induction L generalizing k with
  | nil => simp at hL
  | cons c t ih =>
    cases k with
    | zero =>
      rw [List.getElem?_cons_zero] at hL
      cases hL
      rw [List.set_cons_zero, List.flatten_cons, List.flatten_cons]
      refine (hp.append_right _).trans ?_
      rw [List.append_assoc, List.append_assoc]
      exact List.perm_append_comm.append_left _
    | succ k =>
      rw [List.getElem?_cons_succ] at hL
      rw [List.set_cons_succ, List.flatten_cons, List.flatten_cons, List.append_assoc]
      exact (ih k hL).append_left _
theorem EntG.drop {g : Gv} {ns : List Nat} {key val : Nat → Nat} {l r p : Nat → Option Nat} {col : Nat → Bool} {w : va_W} (h : EntG g ns key val l r p col w) {d : Nat} (hd : d ∈ ns) : ∃ w2 R, w.Perm (w2 ++ R) ∧ EntG g (ns.erase d) key val l r p col w2 := by
  refine ⟨_, [(d, .inr (28, [.ref (kI g (key d)), .ref (val d), va_rf (l d), va_rf (r d), va_rf (p d), .int (nI (if col d = true then 1 else 0))]))], ?_, ⟨h.1.erase d, rfl⟩⟩
  rw [h.2]
  have z := (List.perm_cons_erase hd).map (fun a => ((a, .inr (28, [.ref (kI g (key a)), .ref (val a), va_rf (l a), va_rf (r a), va_rf (p a), .int (nI (if col a = true then 1 else 0))])) : Nat × va_E))
  refine z.trans ?_
  rw [List.map_cons]
  exact List.perm_append_comm (l₁ := [_])
theorem er_m {ns : List Nat} (h : ns.Nodup) (d : Nat) : ∀ b, b ∈ ns.erase d ↔ b ∈ ns ∧ b ≠ d := fun b => by rw [h.mem_erase_iff]; exact And.comm
theorem er_l {ns : List Nat} {d : Nat} (hd : d ∈ ns) : (ns.erase d).length + 1 = ns.length := by
  have := List.length_pos_of_mem hd
  rw [List.length_erase_of_mem hd]; omega
theorem moJ10_fixAfterDeletion : Mo yJ10_fixAfterDeletion 1 := by
  refine ⟨by decide, by decide, by decide +kernel⟩
theorem ct_J10_deleteEntry (g : Gv) (J : Jd g) {t : Nat} {vs : Option Nat} {n : Nat} {md : Nat} {es : Option Nat} {nk : Option Nat} {ns : List Nat} {key : Nat → Nat} {val : Nat → Nat} {l : Nat → Option Nat} {r : Nat → Option Nat} {p : Nat → Option Nat} {col : Nat → Bool} {lo : Nat → Nat} {hi : Nat → Nat} {root : Option Nat} {a : Nat} {w1 : va_W} (hw1 : EntG g ns key val l r p col w1) (hT : Tr ns key l r p lo hi root 128) (ha : a ∈ ns) (hn : n = ns.length) : Ct g yJ10_deleteEntry (ws_ yJ10_deleteEntry cJ10_deleteEntry 3 none) 2 0 0 [.ref t, .ref a] [[(t, .inr (27, [.null, va_rf vs, .null, va_rf root, .int (nI n), .int (nI md), va_rf es, va_rf nk, .null]))], w1] (fun (rv_ : Option Value) (rL_ : List va_W) => ∃ (ns2 : List Nat) (key2 : Nat → Nat) (val2 : Nat → Nat) (l2 : Nat → Option Nat) (r2 : Nat → Option Nat) (p2 : Nat → Option Nat) (col2 : Nat → Bool) (lo2 : Nat → Nat) (hi2 : Nat → Nat) (root2 : Option Nat) (u1 : va_W), rv_ = none ∧ rL_ = [[(t, .inr (27, [.null, va_rf vs, .null, va_rf root2, .int (nI (n - 1)), .int (nI (md + 1)), va_rf es, va_rf nk, .null]))], u1] ∧ EntG g ns2 key2 val2 l2 r2 p2 col2 u1 ∧ (Tr ns2 key2 l2 r2 p2 lo2 hi2 root2 128) ∧ (Dn ns key val (l a ≠ none ∧ r a ≠ none) a ns2 key2 val2)) noX := by
  refine Ct.of "java/util/TreeMap" [some (.ref t), some (.ref a), none] rfl (by decide) rfl (Nat.le_of_ble_eq_true rfl) rfl ?_
  intro κ B E tb
  have hnp : 1 ≤ n := by rw [hn]; exact List.length_pos_of_mem ha
  have ct57 : ∀ (d : Nat) (kc : Nat → Nat) (vc : Nat → Nat) (l57_1 : va_W), EntG g ns kc vc l r p col l57_1 → (d ∈ ns) → (Dl ns key val l r a d kc vc) → (l d = none ∨ r d = none) → Go g κ 57 [some (.ref t), some (.ref d), none] [] [[(t, .inr (27, [.null, va_rf vs, .null, va_rf root, .int (nI (n - 1)), .int (nI (md + 1)), va_rf es, va_rf nk, .null]))], l57_1] 0 0 := by
    intro d kc vc l57_1 hl57_1 hdm hD hd1
    refine g_aload_n (q := 58) B dJ10_deleteEntry_57 rfl rfl (rv_r _) ?_
    refine g_getM (v := va_rf (l d)) (q := 61) B (ci := 28) (k := 1) (j := 2) in_J37 rfl dJ10_deleteEntry_58 rfl rfl (EntG.mem hl57_1 hdm) (Nat.le_of_ble_eq_true rfl) q2113 rfl rfl ?_
    refine g_ifnull_o (tgt := 71) (q := 64) B dJ10_deleteEntry_61 rfl (by decide) (fun c61 => ?_) (fun ld_a61 c61 => ?_)
    · skip
      refine g_aload_n (q := 72) B dJ10_deleteEntry_71 rfl rfl (rv_r _) ?_
      refine g_getM (v := va_rf (r d)) (q := 75) B (ci := 28) (k := 1) (j := 3) in_J37 rfl dJ10_deleteEntry_72 rfl rfl (EntG.mem hl57_1 hdm) (Nat.le_of_ble_eq_true rfl) q2115 rfl rfl ?_
      refine g_astore_n (q := 76) (lv2 := [some (.ref t), some (.ref d), some (va_rf (r d))]) B dJ10_deleteEntry_75 rfl (Nat.le_of_ble_eq_true rfl) (rv_o _) rfl ?_
      refine g_aload_n (q := 77) B dJ10_deleteEntry_76 rfl rfl (rv_o _) ?_
      refine g_ifnull_o (tgt := 164) (q := 80) B dJ10_deleteEntry_77 rfl (by decide) (fun c77 => ?_) (fun rd_a77 c77 => ?_)
      · skip
        rw [c77]
        refine (show Go g κ 164 [some (.ref t), some (.ref d), some (.null)] [] [[(t, .inr (27, [.null, va_rf vs, .null, va_rf root, .int (nI (n - 1)), .int (nI (md + 1)), va_rf es, va_rf nk, .null]))], l57_1] 0 0 from ?_)
        refine g_aload_n (q := 165) B dJ10_deleteEntry_164 rfl rfl (rv_r _) ?_
        refine g_getM (v := va_rf (p d)) (q := 168) B (ci := 28) (k := 1) (j := 4) in_J37 rfl dJ10_deleteEntry_165 rfl rfl (EntG.mem hl57_1 hdm) (Nat.le_of_ble_eq_true rfl) q2117 rfl rfl ?_
        refine g_ifnonnull_o (tgt := 179) (q := 171) B dJ10_deleteEntry_168 rfl (by decide) (fun pd_a168 c168 => ?_) (fun c168 => ?_)
        · skip
          have hbm := tr_pm hT hdm c168
          have hdb : d ≠ pd_a168 := (tr_3 hT hdm c168).1
          refine g_aload_n (q := 180) B dJ10_deleteEntry_179 rfl rfl (rv_r _) ?_
          refine g_getM (v := .int (nI (if col d = true then 1 else 0))) (q := 183) B (ci := 28) (k := 1) (j := 5) in_J37 rfl dJ10_deleteEntry_180 rfl rfl (EntG.mem hl57_1 hdm) (Nat.le_of_ble_eq_true rfl) q2119 rfl rfl ?_
          refine g_iconst (v := nI 1) (q := 184) B dJ10_deleteEntry_183 rfl (by decide) ?_
          refine g_icmp_ne (tgt := 192) (q := 187) B dJ10_deleteEntry_184 rfl (by decide) (not_congr bo_eq1) (fun c184 => ?_) (fun c184 => ?_)
          · skip
            refine g_aload_n (q := 193) B dJ10_deleteEntry_192 rfl rfl (rv_r _) ?_
            refine g_getM (v := .ref pd_a168) (q := 196) B (ci := 28) (k := 1) (j := 4) in_J37 rfl dJ10_deleteEntry_193 rfl rfl (EntG.mem hl57_1 hdm) (Nat.le_of_ble_eq_true rfl) q2117 rfl (congrArg some (congrArg va_rf c168)) ?_
            refine g_ifnull_r (q := 199) B dJ10_deleteEntry_196 rfl ?_
            refine g_aload_n (q := 200) B dJ10_deleteEntry_199 rfl rfl (rv_r _) ?_
            refine g_aload_n (q := 201) B dJ10_deleteEntry_200 rfl rfl (rv_r _) ?_
            refine g_getM (v := .ref pd_a168) (q := 204) B (ci := 28) (k := 1) (j := 4) in_J37 rfl dJ10_deleteEntry_201 rfl rfl (EntG.mem hl57_1 hdm) (Nat.le_of_ble_eq_true rfl) q2117 rfl (congrArg some (congrArg va_rf c168)) ?_
            refine g_getM (v := va_rf (l pd_a168)) (q := 207) B (ci := 28) (k := 1) (j := 2) in_J37 rfl dJ10_deleteEntry_204 rfl rfl (EntG.mem hl57_1 hbm) (Nat.le_of_ble_eq_true rfl) q2113 rfl rfl ?_
            refine g_acmp_ne (rx := some d) (ry := l pd_a168) (tgt := 221) (q := 210) B dJ10_deleteEntry_207 rfl (by decide) rfl rfl (acn) (fun c207 => ?_) (fun c207 => ?_)
            · skip
              have hrb : r pd_a168 = some d := (hT.2.2.2.2.2.2.2.1 d hdm pd_a168 c168).2.resolve_left c207
              refine g_aload_n (q := 222) B dJ10_deleteEntry_221 rfl rfl (rv_r _) ?_
              refine g_aload_n (q := 223) B dJ10_deleteEntry_222 rfl rfl (rv_r _) ?_
              refine g_getM (v := .ref pd_a168) (q := 226) B (ci := 28) (k := 1) (j := 4) in_J37 rfl dJ10_deleteEntry_223 rfl rfl (EntG.mem hl57_1 hdm) (Nat.le_of_ble_eq_true rfl) q2117 rfl (congrArg some (congrArg va_rf c168)) ?_
              refine g_getM (v := .ref d) (q := 229) B (ci := 28) (k := 1) (j := 3) in_J37 rfl dJ10_deleteEntry_226 rfl rfl (EntG.mem hl57_1 hbm) (Nat.le_of_ble_eq_true rfl) q2115 rfl (congrArg some (congrArg va_rf hrb)) ?_
              refine g_acmp_ne (rx := some d) (ry := some d) (tgt := 240) (q := 232) B dJ10_deleteEntry_229 rfl (by decide) rfl rfl (iff_false_intro (fun z => z rfl)) (fun z => z.elim) (fun _ => ?_)
              refine g_aload_n (q := 233) B dJ10_deleteEntry_232 rfl rfl (rv_r _) ?_
              refine g_getM (v := .ref pd_a168) (q := 236) B (ci := 28) (k := 1) (j := 4) in_J37 rfl dJ10_deleteEntry_233 rfl rfl (EntG.mem hl57_1 hdm) (Nat.le_of_ble_eq_true rfl) q2117 rfl (congrArg some (congrArg va_rf c168)) ?_
              refine g_aconst_null (q := 237) B dJ10_deleteEntry_236 rfl ?_
              refine g_putE3 (q := 240) (k := 1) (x := none) B hl57_1 hbm dJ10_deleteEntry_237 rfl rfl q2115 (fun we_1_237 hwe_1_237 => ?_)
              refine (show Go g κ 240 [some (.ref t), some (.ref d), some (.null)] [] [[(t, .inr (27, [.null, va_rf vs, .null, va_rf root, .int (nI (n - 1)), .int (nI (md + 1)), va_rf es, va_rf nk, .null]))], we_1_237] 0 0 from ?_)
              refine g_aload_n (q := 241) B dJ10_deleteEntry_240 rfl rfl (rv_r _) ?_
              refine g_aconst_null (q := 242) B dJ10_deleteEntry_241 rfl ?_
              refine g_putE4 (q := 245) (k := 1) (x := none) B hwe_1_237 hdm dJ10_deleteEntry_242 rfl rfl q2117 (fun we_2_242 hwe_2_242 => ?_)
              refine (show Go g κ 245 [some (.ref t), some (.ref d), some (.null)] [] [[(t, .inr (27, [.null, va_rf vs, .null, va_rf root, .int (nI (n - 1)), .int (nI (md + 1)), va_rf es, va_rf nk, .null]))], we_2_242] 0 0 from ?_)
              have hTc := tr_cut (ns2 := ns.erase d) hT (er_m hl57_1.1 d) hdm c61 c77 c168
              obtain ⟨wd, Rd, hpd, hwd⟩ := EntG.drop hwe_2_242 hdm
              refine g_sub 1 rfl hpd rfl ?_
              refine (show Go g κ 245 [some (.ref t), some (.ref d), some (.null)] [] [[(t, .inr (27, [.null, va_rf vs, .null, va_rf root, .int (nI (n - 1)), .int (nI (md + 1)), va_rf es, va_rf nk, .null]))], wd] 0 0 from ?_)
              have hwd2 : EntG g (ns.erase d) kc vc (if l pd_a168 = some d then fup l pd_a168 none else l) (if l pd_a168 = some d then r else fup r pd_a168 none) p col wd := EntG.congr hwd (fun e he => by
                have z0 := (er_m hl57_1.1 d e).mp he
                refine ⟨rfl, rfl, ?_, ?_, ?_, rfl⟩ <;> grind [fup])
              obtain ⟨⟨lo3, hi3, hT3⟩, hDn⟩ := dl_fin (ns2 := (ns.erase d)) hT.1 (fun b hb => tr_k hT hb) ha hdm hD (er_l hdm) (er_m hl57_1.1 d) hTc
              exact g_vret B E dJ10_deleteEntry_245 (⟨_, _, _, _, _, _, _, lo3, hi3, _, _, rfl, rfl, hwd2, hT3, hDn⟩)
            · skip
              refine g_aload_n (q := 211) B dJ10_deleteEntry_210 rfl rfl (rv_r _) ?_
              refine g_getM (v := .ref pd_a168) (q := 214) B (ci := 28) (k := 1) (j := 4) in_J37 rfl dJ10_deleteEntry_211 rfl rfl (EntG.mem hl57_1 hdm) (Nat.le_of_ble_eq_true rfl) q2117 rfl (congrArg some (congrArg va_rf c168)) ?_
              refine g_aconst_null (q := 215) B dJ10_deleteEntry_214 rfl ?_
              refine g_putE2 (q := 218) (k := 1) (x := none) B hl57_1 hbm dJ10_deleteEntry_215 rfl rfl q2113 (fun we_3_215 hwe_3_215 => ?_)
              refine (show Go g κ 218 [some (.ref t), some (.ref d), some (.null)] [] [[(t, .inr (27, [.null, va_rf vs, .null, va_rf root, .int (nI (n - 1)), .int (nI (md + 1)), va_rf es, va_rf nk, .null]))], we_3_215] 0 0 from ?_)
              refine g_goto (tgt := 240) B dJ10_deleteEntry_218 (by decide) ?_
              refine g_aload_n (q := 241) B dJ10_deleteEntry_240 rfl rfl (rv_r _) ?_
              refine g_aconst_null (q := 242) B dJ10_deleteEntry_241 rfl ?_
              refine g_putE4 (q := 245) (k := 1) (x := none) B hwe_3_215 hdm dJ10_deleteEntry_242 rfl rfl q2117 (fun we_4_242 hwe_4_242 => ?_)
              refine (show Go g κ 245 [some (.ref t), some (.ref d), some (.null)] [] [[(t, .inr (27, [.null, va_rf vs, .null, va_rf root, .int (nI (n - 1)), .int (nI (md + 1)), va_rf es, va_rf nk, .null]))], we_4_242] 0 0 from ?_)
              have hTc := tr_cut (ns2 := ns.erase d) hT (er_m hl57_1.1 d) hdm c61 c77 c168
              obtain ⟨wd, Rd, hpd, hwd⟩ := EntG.drop hwe_4_242 hdm
              refine g_sub 1 rfl hpd rfl ?_
              refine (show Go g κ 245 [some (.ref t), some (.ref d), some (.null)] [] [[(t, .inr (27, [.null, va_rf vs, .null, va_rf root, .int (nI (n - 1)), .int (nI (md + 1)), va_rf es, va_rf nk, .null]))], wd] 0 0 from ?_)
              have hwd2 : EntG g (ns.erase d) kc vc (if l pd_a168 = some d then fup l pd_a168 none else l) (if l pd_a168 = some d then r else fup r pd_a168 none) p col wd := EntG.congr hwd (fun e he => by
                have z0 := (er_m hl57_1.1 d e).mp he
                refine ⟨rfl, rfl, ?_, ?_, ?_, rfl⟩ <;> grind [fup])
              obtain ⟨⟨lo3, hi3, hT3⟩, hDn⟩ := dl_fin (ns2 := (ns.erase d)) hT.1 (fun b hb => tr_k hT hb) ha hdm hD (er_l hdm) (er_m hl57_1.1 d) hTc
              exact g_vret B E dJ10_deleteEntry_245 (⟨_, _, _, _, _, _, _, lo3, hi3, _, _, rfl, rfl, hwd2, hT3, hDn⟩)
          · skip
            refine g_aload_n (q := 188) B dJ10_deleteEntry_187 rfl rfl (rv_r _) ?_
            refine g_aload_n (q := 189) B dJ10_deleteEntry_188 rfl rfl (rv_r _) ?_
            refine g_callV (q := 192) (is := [0, 0]) (kc2 := 0) (ks2 := 0) B [.ref d] (ct_J10_fixAfterDeletion g J (t := t) (vs := vs) (n := n - 1) (md := md + 1) (es := es) (nk := nk) (ns := ns) (key := key) (val := vc) (l := l) (r := r) (p := p) (col := col) (lo := lo) (hi := hi) (root := root) (M := 128) (kc := kc) (x := d) (q := (some d)) hl57_1 (hT) (hdm) (fun e he => by cases he; have z := hT.2.1 d hdm; exact ⟨hdm, z.1, z.2.1, c61, c77⟩)) dJ10_deleteEntry_189 rfl (rc_at B (ci := 27) rfl (k := 0) rfl) rfl q2310 q2312 qs26 q91 q2313 rfl rfl moJ10_fixAfterDeletion rfl rfl (by decide) (by decide) (Nat.le_of_ble_eq_true rfl) (Nat.le_of_ble_eq_true rfl) (Nat.le_of_ble_eq_true rfl) (fun _ _ hx => noX_x hx) (fun v189 L1 hp189 => ?_)
            obtain ⟨l2189, r2189, p2189, col2189, lo2189, hi2189, root2189, u1_189, rfl, rfl, hu1_189, hT2_189, hq2_189⟩ := hp189
            refine (show Go g κ 192 [some (.ref t), some (.ref d), some (.null)] [] [[(t, .inr (27, [.null, va_rf vs, .null, va_rf root2189, .int (nI (n - 1)), .int (nI (md + 1)), va_rf es, va_rf nk, .null]))], u1_189] 0 0 from ?_)
            obtain ⟨zq, hzq⟩ := hq2_189
            obtain ⟨-, -, -, hld, hrd⟩ := hzq d rfl
            obtain ⟨b, hpd⟩ : ∃ b, p2189 d = some b := by
              cases e : p2189 d with
              | none => exact absurd (tr_alone hT2_189 hdm hld hrd e _ hbm) (Ne.symm hdb)
              | some b => exact ⟨b, rfl⟩
            have hbm2 := tr_pm hT2_189 hdm hpd
            have hdb2 : d ≠ b := (tr_3 hT2_189 hdm hpd).1
            refine g_aload_n (q := 193) B dJ10_deleteEntry_192 rfl rfl (rv_r _) ?_
            refine g_getM (v := .ref b) (q := 196) B (ci := 28) (k := 1) (j := 4) in_J37 rfl dJ10_deleteEntry_193 rfl rfl (EntG.mem hu1_189 hdm) (Nat.le_of_ble_eq_true rfl) q2117 rfl (congrArg some (congrArg va_rf hpd)) ?_
            refine g_ifnull_r (q := 199) B dJ10_deleteEntry_196 rfl ?_
            refine g_aload_n (q := 200) B dJ10_deleteEntry_199 rfl rfl (rv_r _) ?_
            refine g_aload_n (q := 201) B dJ10_deleteEntry_200 rfl rfl (rv_r _) ?_
            refine g_getM (v := .ref b) (q := 204) B (ci := 28) (k := 1) (j := 4) in_J37 rfl dJ10_deleteEntry_201 rfl rfl (EntG.mem hu1_189 hdm) (Nat.le_of_ble_eq_true rfl) q2117 rfl (congrArg some (congrArg va_rf hpd)) ?_
            refine g_getM (v := va_rf (l2189 b)) (q := 207) B (ci := 28) (k := 1) (j := 2) in_J37 rfl dJ10_deleteEntry_204 rfl rfl (EntG.mem hu1_189 hbm2) (Nat.le_of_ble_eq_true rfl) q2113 rfl rfl ?_
            refine g_acmp_ne (rx := some d) (ry := l2189 b) (tgt := 221) (q := 210) B dJ10_deleteEntry_207 rfl (by decide) rfl rfl (acn) (fun c207 => ?_) (fun c207 => ?_)
            · skip
              have hrb : r2189 b = some d := (hT2_189.2.2.2.2.2.2.2.1 d hdm b hpd).2.resolve_left c207
              refine g_aload_n (q := 222) B dJ10_deleteEntry_221 rfl rfl (rv_r _) ?_
              refine g_aload_n (q := 223) B dJ10_deleteEntry_222 rfl rfl (rv_r _) ?_
              refine g_getM (v := .ref b) (q := 226) B (ci := 28) (k := 1) (j := 4) in_J37 rfl dJ10_deleteEntry_223 rfl rfl (EntG.mem hu1_189 hdm) (Nat.le_of_ble_eq_true rfl) q2117 rfl (congrArg some (congrArg va_rf hpd)) ?_
              refine g_getM (v := .ref d) (q := 229) B (ci := 28) (k := 1) (j := 3) in_J37 rfl dJ10_deleteEntry_226 rfl rfl (EntG.mem hu1_189 hbm2) (Nat.le_of_ble_eq_true rfl) q2115 rfl (congrArg some (congrArg va_rf hrb)) ?_
              refine g_acmp_ne (rx := some d) (ry := some d) (tgt := 240) (q := 232) B dJ10_deleteEntry_229 rfl (by decide) rfl rfl (iff_false_intro (fun z => z rfl)) (fun z => z.elim) (fun _ => ?_)
              refine g_aload_n (q := 233) B dJ10_deleteEntry_232 rfl rfl (rv_r _) ?_
              refine g_getM (v := .ref b) (q := 236) B (ci := 28) (k := 1) (j := 4) in_J37 rfl dJ10_deleteEntry_233 rfl rfl (EntG.mem hu1_189 hdm) (Nat.le_of_ble_eq_true rfl) q2117 rfl (congrArg some (congrArg va_rf hpd)) ?_
              refine g_aconst_null (q := 237) B dJ10_deleteEntry_236 rfl ?_
              refine g_putE3 (q := 240) (k := 1) (x := none) B hu1_189 hbm2 dJ10_deleteEntry_237 rfl rfl q2115 (fun we_5_237 hwe_5_237 => ?_)
              refine (show Go g κ 240 [some (.ref t), some (.ref d), some (.null)] [] [[(t, .inr (27, [.null, va_rf vs, .null, va_rf root2189, .int (nI (n - 1)), .int (nI (md + 1)), va_rf es, va_rf nk, .null]))], we_5_237] 0 0 from ?_)
              refine g_aload_n (q := 241) B dJ10_deleteEntry_240 rfl rfl (rv_r _) ?_
              refine g_aconst_null (q := 242) B dJ10_deleteEntry_241 rfl ?_
              refine g_putE4 (q := 245) (k := 1) (x := none) B hwe_5_237 hdm dJ10_deleteEntry_242 rfl rfl q2117 (fun we_6_242 hwe_6_242 => ?_)
              refine (show Go g κ 245 [some (.ref t), some (.ref d), some (.null)] [] [[(t, .inr (27, [.null, va_rf vs, .null, va_rf root2189, .int (nI (n - 1)), .int (nI (md + 1)), va_rf es, va_rf nk, .null]))], we_6_242] 0 0 from ?_)
              have hTc := tr_cut (ns2 := ns.erase d) hT2_189 (er_m hl57_1.1 d) hdm hld hrd hpd
              obtain ⟨wd, Rd, hpd, hwd⟩ := EntG.drop hwe_6_242 hdm
              refine g_sub 1 rfl hpd rfl ?_
              refine (show Go g κ 245 [some (.ref t), some (.ref d), some (.null)] [] [[(t, .inr (27, [.null, va_rf vs, .null, va_rf root2189, .int (nI (n - 1)), .int (nI (md + 1)), va_rf es, va_rf nk, .null]))], wd] 0 0 from ?_)
              have hwd2 : EntG g (ns.erase d) kc vc (if l2189 b = some d then fup l2189 b none else l2189) (if l2189 b = some d then r2189 else fup r2189 b none) p2189 col2189 wd := EntG.congr hwd (fun e he => by
                have z0 := (er_m hl57_1.1 d e).mp he
                refine ⟨rfl, rfl, ?_, ?_, ?_, rfl⟩ <;> grind [fup])
              obtain ⟨⟨lo3, hi3, hT3⟩, hDn⟩ := dl_fin (ns2 := (ns.erase d)) hT.1 (fun b hb => tr_k hT hb) ha hdm hD (er_l hdm) (er_m hl57_1.1 d) hTc
              exact g_vret B E dJ10_deleteEntry_245 (⟨_, _, _, _, _, _, _, lo3, hi3, _, _, rfl, rfl, hwd2, hT3, hDn⟩)
            · skip
              refine g_aload_n (q := 211) B dJ10_deleteEntry_210 rfl rfl (rv_r _) ?_
              refine g_getM (v := .ref b) (q := 214) B (ci := 28) (k := 1) (j := 4) in_J37 rfl dJ10_deleteEntry_211 rfl rfl (EntG.mem hu1_189 hdm) (Nat.le_of_ble_eq_true rfl) q2117 rfl (congrArg some (congrArg va_rf hpd)) ?_
              refine g_aconst_null (q := 215) B dJ10_deleteEntry_214 rfl ?_
              refine g_putE2 (q := 218) (k := 1) (x := none) B hu1_189 hbm2 dJ10_deleteEntry_215 rfl rfl q2113 (fun we_7_215 hwe_7_215 => ?_)
              refine (show Go g κ 218 [some (.ref t), some (.ref d), some (.null)] [] [[(t, .inr (27, [.null, va_rf vs, .null, va_rf root2189, .int (nI (n - 1)), .int (nI (md + 1)), va_rf es, va_rf nk, .null]))], we_7_215] 0 0 from ?_)
              refine g_goto (tgt := 240) B dJ10_deleteEntry_218 (by decide) ?_
              refine g_aload_n (q := 241) B dJ10_deleteEntry_240 rfl rfl (rv_r _) ?_
              refine g_aconst_null (q := 242) B dJ10_deleteEntry_241 rfl ?_
              refine g_putE4 (q := 245) (k := 1) (x := none) B hwe_7_215 hdm dJ10_deleteEntry_242 rfl rfl q2117 (fun we_8_242 hwe_8_242 => ?_)
              refine (show Go g κ 245 [some (.ref t), some (.ref d), some (.null)] [] [[(t, .inr (27, [.null, va_rf vs, .null, va_rf root2189, .int (nI (n - 1)), .int (nI (md + 1)), va_rf es, va_rf nk, .null]))], we_8_242] 0 0 from ?_)
              have hTc := tr_cut (ns2 := ns.erase d) hT2_189 (er_m hl57_1.1 d) hdm hld hrd hpd
              obtain ⟨wd, Rd, hpd, hwd⟩ := EntG.drop hwe_8_242 hdm
              refine g_sub 1 rfl hpd rfl ?_
              refine (show Go g κ 245 [some (.ref t), some (.ref d), some (.null)] [] [[(t, .inr (27, [.null, va_rf vs, .null, va_rf root2189, .int (nI (n - 1)), .int (nI (md + 1)), va_rf es, va_rf nk, .null]))], wd] 0 0 from ?_)
              have hwd2 : EntG g (ns.erase d) kc vc (if l2189 b = some d then fup l2189 b none else l2189) (if l2189 b = some d then r2189 else fup r2189 b none) p2189 col2189 wd := EntG.congr hwd (fun e he => by
                have z0 := (er_m hl57_1.1 d e).mp he
                refine ⟨rfl, rfl, ?_, ?_, ?_, rfl⟩ <;> grind [fup])
              obtain ⟨⟨lo3, hi3, hT3⟩, hDn⟩ := dl_fin (ns2 := (ns.erase d)) hT.1 (fun b hb => tr_k hT hb) ha hdm hD (er_l hdm) (er_m hl57_1.1 d) hTc
              exact g_vret B E dJ10_deleteEntry_245 (⟨_, _, _, _, _, _, _, lo3, hi3, _, _, rfl, rfl, hwd2, hT3, hDn⟩)
        · skip
          refine g_aload_n (q := 172) B dJ10_deleteEntry_171 rfl rfl (rv_r _) ?_
          refine g_aconst_null (q := 173) B dJ10_deleteEntry_172 rfl ?_
          refine g_put (q := 176) (L2 := [[(t, .inr (27, [.null, va_rf vs, .null, .null, .int (nI (n - 1)), .int (nI (md + 1)), va_rf es, va_rf nk, .null]))], l57_1]) B (ci := 27) (k := 0) (j := 3) in_J10 tyJ10 tyJ10_ok nmJ10 rfl dJ10_deleteEntry_173 rfl rfl (Nat.le_of_ble_eq_true rfl) q1871 rfl rfl rfl rfl (Nat.le_of_ble_eq_true rfl) rfl ?_
          refine g_goto (tgt := 245) B dJ10_deleteEntry_176 (by decide) ?_
          obtain ⟨wd, Rd, hpd, hwd⟩ := EntG.drop hl57_1 hdm
          refine g_sub 1 rfl hpd rfl ?_
          refine (show Go g κ 245 [some (.ref t), some (.ref d), some (.null)] [] [[(t, .inr (27, [.null, va_rf vs, .null, .null, .int (nI (n - 1)), .int (nI (md + 1)), va_rf es, va_rf nk, .null]))], wd] 0 0 from ?_)
          have hal : ns.erase d = [] := by
            refine List.eq_nil_iff_forall_not_mem.mpr fun b hb => ?_
            have z := (er_m hl57_1.1 d b).mp hb
            exact z.2 (tr_alone hT hdm c61 c77 c168 b z.1)
          have hTe : Tr (ns.erase d) key l r p lo hi none 128 := by rw [hal]; exact tr_nil
          obtain ⟨⟨lo3, hi3, hT3⟩, hDn⟩ := dl_fin (ns2 := (ns.erase d)) hT.1 (fun b hb => tr_k hT hb) ha hdm hD (er_l hdm) (er_m hl57_1.1 d) hTe
          exact g_vret B E dJ10_deleteEntry_245 (⟨_, _, _, _, _, _, _, lo3, hi3, _, _, rfl, rfl, hwd, hT3, hDn⟩)
      · skip
        rw [c77]
        refine (show Go g κ 80 [some (.ref t), some (.ref d), some (.ref rd_a77)] [] [[(t, .inr (27, [.null, va_rf vs, .null, va_rf root, .int (nI (n - 1)), .int (nI (md + 1)), va_rf es, va_rf nk, .null]))], l57_1] 0 0 from ?_)
        have hxm := tr_rm hT hdm c77
        have hxd : rd_a77 ≠ d := by have z := wid_r hT hdm; rw [c77] at z; rintro rfl; omega
        have hTn := tr_liftR (ns2 := ns.erase d) hT (er_m hl57_1.1 d) hdm c61 c77
        refine g_aload_n (q := 81) B dJ10_deleteEntry_80 rfl rfl (rv_r _) ?_
        refine g_aload_n (q := 82) B dJ10_deleteEntry_81 rfl rfl (rv_r _) ?_
        refine g_getM (v := va_rf (p d)) (q := 85) B (ci := 28) (k := 1) (j := 4) in_J37 rfl dJ10_deleteEntry_82 rfl rfl (EntG.mem hl57_1 hdm) (Nat.le_of_ble_eq_true rfl) q2117 rfl rfl ?_
        refine g_putE4 (q := 88) (k := 1) (x := p d) B hl57_1 hxm dJ10_deleteEntry_85 rfl rfl q2117 (fun we_9_85 hwe_9_85 => ?_)
        refine (show Go g κ 88 [some (.ref t), some (.ref d), some (.ref rd_a77)] [] [[(t, .inr (27, [.null, va_rf vs, .null, va_rf root, .int (nI (n - 1)), .int (nI (md + 1)), va_rf es, va_rf nk, .null]))], we_9_85] 0 0 from ?_)
        refine g_aload_n (q := 89) B dJ10_deleteEntry_88 rfl rfl (rv_r _) ?_
        refine g_getM (v := va_rf (p d)) (q := 92) B (ci := 28) (k := 1) (j := 4) in_J37 rfl dJ10_deleteEntry_89 rfl rfl (EntG.mem hwe_9_85 hdm) (Nat.le_of_ble_eq_true rfl) q2117 rfl (congrArg some (congrArg va_rf (fup_n (Ne.symm hxd)))) ?_
        refine g_ifnonnull_o (tgt := 103) (q := 95) B dJ10_deleteEntry_92 rfl (by decide) (fun pd_a92 c92 => ?_) (fun c92 => ?_)
        · skip
          have hbm := tr_pm hT hdm c92
          have hdb : d ≠ pd_a92 := (tr_3 hT hdm c92).1
          have hxb : rd_a77 ≠ pd_a92 := by
            have z1 := wid_p hT hdm c92
            have z2 := wid_r hT hdm
            rw [c77] at z2
            rintro rfl; omega
          refine g_aload_n (q := 104) B dJ10_deleteEntry_103 rfl rfl (rv_r _) ?_
          refine g_aload_n (q := 105) B dJ10_deleteEntry_104 rfl rfl (rv_r _) ?_
          refine g_getM (v := .ref pd_a92) (q := 108) B (ci := 28) (k := 1) (j := 4) in_J37 rfl dJ10_deleteEntry_105 rfl rfl (EntG.mem hwe_9_85 hdm) (Nat.le_of_ble_eq_true rfl) q2117 rfl (congrArg some (congrArg va_rf ((fup_n (Ne.symm hxd)).trans c92))) ?_
          refine g_getM (v := va_rf (l pd_a92)) (q := 111) B (ci := 28) (k := 1) (j := 2) in_J37 rfl dJ10_deleteEntry_108 rfl rfl (EntG.mem hwe_9_85 hbm) (Nat.le_of_ble_eq_true rfl) q2113 rfl rfl ?_
          refine g_acmp_ne (rx := some d) (ry := l pd_a92) (tgt := 125) (q := 114) B dJ10_deleteEntry_111 rfl (by decide) rfl rfl (acn) (fun c111 => ?_) (fun c111 => ?_)
          · skip
            refine g_aload_n (q := 126) B dJ10_deleteEntry_125 rfl rfl (rv_r _) ?_
            refine g_getM (v := .ref pd_a92) (q := 129) B (ci := 28) (k := 1) (j := 4) in_J37 rfl dJ10_deleteEntry_126 rfl rfl (EntG.mem hwe_9_85 hdm) (Nat.le_of_ble_eq_true rfl) q2117 rfl (congrArg some (congrArg va_rf ((fup_n (Ne.symm hxd)).trans c92))) ?_
            refine g_aload_n (q := 130) B dJ10_deleteEntry_129 rfl rfl (rv_r _) ?_
            refine g_putE3 (q := 133) (k := 1) (x := some rd_a77) B hwe_9_85 hbm dJ10_deleteEntry_130 rfl rfl q2115 (fun we_10_130 hwe_10_130 => ?_)
            refine (show Go g κ 133 [some (.ref t), some (.ref d), some (.ref rd_a77)] [] [[(t, .inr (27, [.null, va_rf vs, .null, va_rf root, .int (nI (n - 1)), .int (nI (md + 1)), va_rf es, va_rf nk, .null]))], we_10_130] 0 0 from ?_)
            refine g_aload_n (q := 134) B dJ10_deleteEntry_133 rfl rfl (rv_r _) ?_
            refine g_aload_n (q := 135) B dJ10_deleteEntry_134 rfl rfl (rv_r _) ?_
            refine g_aload_n (q := 136) B dJ10_deleteEntry_135 rfl rfl (rv_r _) ?_
            refine g_aconst_null (q := 137) B dJ10_deleteEntry_136 rfl ?_
            refine g_dup_x1 (q := 138) B dJ10_deleteEntry_137 rfl rfl rfl ?_
            refine g_putE4 (q := 141) (k := 1) (x := none) B hwe_10_130 hdm dJ10_deleteEntry_138 rfl rfl q2117 (fun we_11_138 hwe_11_138 => ?_)
            refine (show Go g κ 141 [some (.ref t), some (.ref d), some (.ref rd_a77)] [.null, .ref d, .ref d] [[(t, .inr (27, [.null, va_rf vs, .null, va_rf root, .int (nI (n - 1)), .int (nI (md + 1)), va_rf es, va_rf nk, .null]))], we_11_138] 0 0 from ?_)
            refine g_dup_x1 (q := 142) B dJ10_deleteEntry_141 rfl rfl rfl ?_
            refine g_putE3 (q := 145) (k := 1) (x := none) B hwe_11_138 hdm dJ10_deleteEntry_142 rfl rfl q2115 (fun we_12_142 hwe_12_142 => ?_)
            refine (show Go g κ 145 [some (.ref t), some (.ref d), some (.ref rd_a77)] [.null, .ref d] [[(t, .inr (27, [.null, va_rf vs, .null, va_rf root, .int (nI (n - 1)), .int (nI (md + 1)), va_rf es, va_rf nk, .null]))], we_12_142] 0 0 from ?_)
            refine g_putE2 (q := 148) (k := 1) (x := none) B hwe_12_142 hdm dJ10_deleteEntry_145 rfl rfl q2113 (fun we_13_145 hwe_13_145 => ?_)
            refine (show Go g κ 148 [some (.ref t), some (.ref d), some (.ref rd_a77)] [] [[(t, .inr (27, [.null, va_rf vs, .null, va_rf root, .int (nI (n - 1)), .int (nI (md + 1)), va_rf es, va_rf nk, .null]))], we_13_145] 0 0 from ?_)
            refine g_aload_n (q := 149) B dJ10_deleteEntry_148 rfl rfl (rv_r _) ?_
            refine g_getM (v := .int (nI (if col d = true then 1 else 0))) (q := 152) B (ci := 28) (k := 1) (j := 5) in_J37 rfl dJ10_deleteEntry_149 rfl rfl (EntG.mem hwe_13_145 hdm) (Nat.le_of_ble_eq_true rfl) q2119 rfl rfl ?_
            refine g_iconst (v := nI 1) (q := 153) B dJ10_deleteEntry_152 rfl (by decide) ?_
            refine g_icmp_ne (tgt := 245) (q := 156) B dJ10_deleteEntry_153 rfl (by decide) (not_congr bo_eq1) (fun c153 => ?_) (fun c153 => ?_)
            · skip
              obtain ⟨wd, Rd, hpd, hwd⟩ := EntG.drop hwe_13_145 hdm
              refine g_sub 1 rfl hpd rfl ?_
              refine (show Go g κ 245 [some (.ref t), some (.ref d), some (.ref rd_a77)] [] [[(t, .inr (27, [.null, va_rf vs, .null, va_rf root, .int (nI (n - 1)), .int (nI (md + 1)), va_rf es, va_rf nk, .null]))], wd] 0 0 from ?_)
              have hrt : lfRoot root p d rd_a77 = root := by unfold lfRoot; grind
              rw [hrt] at hTn
              have hwd2 : EntG g (ns.erase d) kc vc (lfC l p d rd_a77) (lfC r p d rd_a77) (lfP p d rd_a77) col wd := EntG.congr hwd (fun e he => by
                have z0 := (er_m hwe_13_145.1 d e).mp he
                have z1 := fun q => (hT.2.2.2.1 e z0.1 d q).2.1
                have z2 := fun q => (hT.2.2.2.2.2.1 e z0.1 d q).2.1
                have z3 := fun q => tr_lr (x := d) (b := e) hT z0.1 q
                have z4 := fun b q => (hT.2.2.2.2.2.2.2.1 d hdm b q).2
                refine ⟨rfl, rfl, ?_, ?_, ?_, rfl⟩ <;> grind [fup, lfC, lfP])
              obtain ⟨⟨lo3, hi3, hT3⟩, hDn⟩ := dl_fin (ns2 := (ns.erase d)) hT.1 (fun b hb => tr_k hT hb) ha hdm hD (er_l hdm) (er_m hl57_1.1 d) hTn
              exact g_vret B E dJ10_deleteEntry_245 (⟨_, _, _, _, _, _, _, lo3, hi3, _, _, rfl, rfl, hwd2, hT3, hDn⟩)
            · skip
              obtain ⟨wd, Rd, hpd, hwd⟩ := EntG.drop hwe_13_145 hdm
              refine g_sub 1 rfl hpd rfl ?_
              refine (show Go g κ 156 [some (.ref t), some (.ref d), some (.ref rd_a77)] [] [[(t, .inr (27, [.null, va_rf vs, .null, va_rf root, .int (nI (n - 1)), .int (nI (md + 1)), va_rf es, va_rf nk, .null]))], wd] 0 0 from ?_)
              have hrt : lfRoot root p d rd_a77 = root := by unfold lfRoot; grind
              rw [hrt] at hTn
              have hwd2 : EntG g (ns.erase d) kc vc (lfC l p d rd_a77) (lfC r p d rd_a77) (lfP p d rd_a77) col wd := EntG.congr hwd (fun e he => by
                have z0 := (er_m hwe_13_145.1 d e).mp he
                have z1 := fun q => (hT.2.2.2.1 e z0.1 d q).2.1
                have z2 := fun q => (hT.2.2.2.2.2.1 e z0.1 d q).2.1
                have z3 := fun q => tr_lr (x := d) (b := e) hT z0.1 q
                have z4 := fun b q => (hT.2.2.2.2.2.2.2.1 d hdm b q).2
                refine ⟨rfl, rfl, ?_, ?_, ?_, rfl⟩ <;> grind [fup, lfC, lfP])
              refine g_aload_n (q := 157) B dJ10_deleteEntry_156 rfl rfl (rv_r _) ?_
              refine g_aload_n (q := 158) B dJ10_deleteEntry_157 rfl rfl (rv_r _) ?_
              refine g_callV (q := 161) (is := [0, 0]) (kc2 := 0) (ks2 := 0) B [.ref rd_a77] (ct_J10_fixAfterDeletion g J (t := t) (vs := vs) (n := n - 1) (md := md + 1) (es := es) (nk := nk) (ns := (ns.erase d)) (key := key) (val := vc) (l := (lfC l p d rd_a77)) (r := (lfC r p d rd_a77)) (p := (lfP p d rd_a77)) (col := col) (lo := _) (hi := _) (root := root) (M := 128) (kc := kc) (x := rd_a77) (q := none) hwd2 (hTn) ((er_m hl57_1.1 d rd_a77).mpr ⟨hxm, hxd⟩) (fun a e => by cases e)) dJ10_deleteEntry_158 rfl (rc_at B (ci := 27) rfl (k := 0) rfl) rfl q2310 q2312 qs26 q91 q2313 rfl rfl moJ10_fixAfterDeletion rfl rfl (by decide) (by decide) (Nat.le_of_ble_eq_true rfl) (Nat.le_of_ble_eq_true rfl) (Nat.le_of_ble_eq_true rfl) (fun _ _ hx => noX_x hx) (fun v158 L1 hp158 => ?_)
              obtain ⟨l2158, r2158, p2158, col2158, lo2158, hi2158, root2158, u1_158, rfl, rfl, hu1_158, hT2_158, hq2_158⟩ := hp158
              refine (show Go g κ 161 [some (.ref t), some (.ref d), some (.ref rd_a77)] [] [[(t, .inr (27, [.null, va_rf vs, .null, va_rf root2158, .int (nI (n - 1)), .int (nI (md + 1)), va_rf es, va_rf nk, .null]))], u1_158] 0 0 from ?_)
              refine g_goto (tgt := 245) B dJ10_deleteEntry_161 (by decide) ?_
              obtain ⟨⟨lo3, hi3, hT3⟩, hDn⟩ := dl_fin (ns2 := (ns.erase d)) hT.1 (fun b hb => tr_k hT hb) ha hdm hD (er_l hdm) (er_m hl57_1.1 d) hT2_158
              exact g_vret B E dJ10_deleteEntry_245 (⟨_, _, _, _, _, _, _, lo3, hi3, _, _, rfl, rfl, hu1_158, hT3, hDn⟩)
          · skip
            refine g_aload_n (q := 115) B dJ10_deleteEntry_114 rfl rfl (rv_r _) ?_
            refine g_getM (v := .ref pd_a92) (q := 118) B (ci := 28) (k := 1) (j := 4) in_J37 rfl dJ10_deleteEntry_115 rfl rfl (EntG.mem hwe_9_85 hdm) (Nat.le_of_ble_eq_true rfl) q2117 rfl (congrArg some (congrArg va_rf ((fup_n (Ne.symm hxd)).trans c92))) ?_
            refine g_aload_n (q := 119) B dJ10_deleteEntry_118 rfl rfl (rv_r _) ?_
            refine g_putE2 (q := 122) (k := 1) (x := some rd_a77) B hwe_9_85 hbm dJ10_deleteEntry_119 rfl rfl q2113 (fun we_14_119 hwe_14_119 => ?_)
            refine (show Go g κ 122 [some (.ref t), some (.ref d), some (.ref rd_a77)] [] [[(t, .inr (27, [.null, va_rf vs, .null, va_rf root, .int (nI (n - 1)), .int (nI (md + 1)), va_rf es, va_rf nk, .null]))], we_14_119] 0 0 from ?_)
            refine g_goto (tgt := 133) B dJ10_deleteEntry_122 (by decide) ?_
            refine g_aload_n (q := 134) B dJ10_deleteEntry_133 rfl rfl (rv_r _) ?_
            refine g_aload_n (q := 135) B dJ10_deleteEntry_134 rfl rfl (rv_r _) ?_
            refine g_aload_n (q := 136) B dJ10_deleteEntry_135 rfl rfl (rv_r _) ?_
            refine g_aconst_null (q := 137) B dJ10_deleteEntry_136 rfl ?_
            refine g_dup_x1 (q := 138) B dJ10_deleteEntry_137 rfl rfl rfl ?_
            refine g_putE4 (q := 141) (k := 1) (x := none) B hwe_14_119 hdm dJ10_deleteEntry_138 rfl rfl q2117 (fun we_15_138 hwe_15_138 => ?_)
            refine (show Go g κ 141 [some (.ref t), some (.ref d), some (.ref rd_a77)] [.null, .ref d, .ref d] [[(t, .inr (27, [.null, va_rf vs, .null, va_rf root, .int (nI (n - 1)), .int (nI (md + 1)), va_rf es, va_rf nk, .null]))], we_15_138] 0 0 from ?_)
            refine g_dup_x1 (q := 142) B dJ10_deleteEntry_141 rfl rfl rfl ?_
            refine g_putE3 (q := 145) (k := 1) (x := none) B hwe_15_138 hdm dJ10_deleteEntry_142 rfl rfl q2115 (fun we_16_142 hwe_16_142 => ?_)
            refine (show Go g κ 145 [some (.ref t), some (.ref d), some (.ref rd_a77)] [.null, .ref d] [[(t, .inr (27, [.null, va_rf vs, .null, va_rf root, .int (nI (n - 1)), .int (nI (md + 1)), va_rf es, va_rf nk, .null]))], we_16_142] 0 0 from ?_)
            refine g_putE2 (q := 148) (k := 1) (x := none) B hwe_16_142 hdm dJ10_deleteEntry_145 rfl rfl q2113 (fun we_17_145 hwe_17_145 => ?_)
            refine (show Go g κ 148 [some (.ref t), some (.ref d), some (.ref rd_a77)] [] [[(t, .inr (27, [.null, va_rf vs, .null, va_rf root, .int (nI (n - 1)), .int (nI (md + 1)), va_rf es, va_rf nk, .null]))], we_17_145] 0 0 from ?_)
            refine g_aload_n (q := 149) B dJ10_deleteEntry_148 rfl rfl (rv_r _) ?_
            refine g_getM (v := .int (nI (if col d = true then 1 else 0))) (q := 152) B (ci := 28) (k := 1) (j := 5) in_J37 rfl dJ10_deleteEntry_149 rfl rfl (EntG.mem hwe_17_145 hdm) (Nat.le_of_ble_eq_true rfl) q2119 rfl rfl ?_
            refine g_iconst (v := nI 1) (q := 153) B dJ10_deleteEntry_152 rfl (by decide) ?_
            refine g_icmp_ne (tgt := 245) (q := 156) B dJ10_deleteEntry_153 rfl (by decide) (not_congr bo_eq1) (fun c153 => ?_) (fun c153 => ?_)
            · skip
              obtain ⟨wd, Rd, hpd, hwd⟩ := EntG.drop hwe_17_145 hdm
              refine g_sub 1 rfl hpd rfl ?_
              refine (show Go g κ 245 [some (.ref t), some (.ref d), some (.ref rd_a77)] [] [[(t, .inr (27, [.null, va_rf vs, .null, va_rf root, .int (nI (n - 1)), .int (nI (md + 1)), va_rf es, va_rf nk, .null]))], wd] 0 0 from ?_)
              have hrt : lfRoot root p d rd_a77 = root := by unfold lfRoot; grind
              rw [hrt] at hTn
              have hwd2 : EntG g (ns.erase d) kc vc (lfC l p d rd_a77) (lfC r p d rd_a77) (lfP p d rd_a77) col wd := EntG.congr hwd (fun e he => by
                have z0 := (er_m hwe_17_145.1 d e).mp he
                have z1 := fun q => (hT.2.2.2.1 e z0.1 d q).2.1
                have z2 := fun q => (hT.2.2.2.2.2.1 e z0.1 d q).2.1
                have z3 := fun q => tr_lr (x := d) (b := e) hT z0.1 q
                have z4 := fun b q => (hT.2.2.2.2.2.2.2.1 d hdm b q).2
                refine ⟨rfl, rfl, ?_, ?_, ?_, rfl⟩ <;> grind [fup, lfC, lfP])
              obtain ⟨⟨lo3, hi3, hT3⟩, hDn⟩ := dl_fin (ns2 := (ns.erase d)) hT.1 (fun b hb => tr_k hT hb) ha hdm hD (er_l hdm) (er_m hl57_1.1 d) hTn
              exact g_vret B E dJ10_deleteEntry_245 (⟨_, _, _, _, _, _, _, lo3, hi3, _, _, rfl, rfl, hwd2, hT3, hDn⟩)
            · skip
              obtain ⟨wd, Rd, hpd, hwd⟩ := EntG.drop hwe_17_145 hdm
              refine g_sub 1 rfl hpd rfl ?_
              refine (show Go g κ 156 [some (.ref t), some (.ref d), some (.ref rd_a77)] [] [[(t, .inr (27, [.null, va_rf vs, .null, va_rf root, .int (nI (n - 1)), .int (nI (md + 1)), va_rf es, va_rf nk, .null]))], wd] 0 0 from ?_)
              have hrt : lfRoot root p d rd_a77 = root := by unfold lfRoot; grind
              rw [hrt] at hTn
              have hwd2 : EntG g (ns.erase d) kc vc (lfC l p d rd_a77) (lfC r p d rd_a77) (lfP p d rd_a77) col wd := EntG.congr hwd (fun e he => by
                have z0 := (er_m hwe_17_145.1 d e).mp he
                have z1 := fun q => (hT.2.2.2.1 e z0.1 d q).2.1
                have z2 := fun q => (hT.2.2.2.2.2.1 e z0.1 d q).2.1
                have z3 := fun q => tr_lr (x := d) (b := e) hT z0.1 q
                have z4 := fun b q => (hT.2.2.2.2.2.2.2.1 d hdm b q).2
                refine ⟨rfl, rfl, ?_, ?_, ?_, rfl⟩ <;> grind [fup, lfC, lfP])
              refine g_aload_n (q := 157) B dJ10_deleteEntry_156 rfl rfl (rv_r _) ?_
              refine g_aload_n (q := 158) B dJ10_deleteEntry_157 rfl rfl (rv_r _) ?_
              refine g_callV (q := 161) (is := [0, 0]) (kc2 := 0) (ks2 := 0) B [.ref rd_a77] (ct_J10_fixAfterDeletion g J (t := t) (vs := vs) (n := n - 1) (md := md + 1) (es := es) (nk := nk) (ns := (ns.erase d)) (key := key) (val := vc) (l := (lfC l p d rd_a77)) (r := (lfC r p d rd_a77)) (p := (lfP p d rd_a77)) (col := col) (lo := _) (hi := _) (root := root) (M := 128) (kc := kc) (x := rd_a77) (q := none) hwd2 (hTn) ((er_m hl57_1.1 d rd_a77).mpr ⟨hxm, hxd⟩) (fun a e => by cases e)) dJ10_deleteEntry_158 rfl (rc_at B (ci := 27) rfl (k := 0) rfl) rfl q2310 q2312 qs26 q91 q2313 rfl rfl moJ10_fixAfterDeletion rfl rfl (by decide) (by decide) (Nat.le_of_ble_eq_true rfl) (Nat.le_of_ble_eq_true rfl) (Nat.le_of_ble_eq_true rfl) (fun _ _ hx => noX_x hx) (fun v158 L1 hp158 => ?_)
              obtain ⟨l2158, r2158, p2158, col2158, lo2158, hi2158, root2158, u1_158, rfl, rfl, hu1_158, hT2_158, hq2_158⟩ := hp158
              refine (show Go g κ 161 [some (.ref t), some (.ref d), some (.ref rd_a77)] [] [[(t, .inr (27, [.null, va_rf vs, .null, va_rf root2158, .int (nI (n - 1)), .int (nI (md + 1)), va_rf es, va_rf nk, .null]))], u1_158] 0 0 from ?_)
              refine g_goto (tgt := 245) B dJ10_deleteEntry_161 (by decide) ?_
              obtain ⟨⟨lo3, hi3, hT3⟩, hDn⟩ := dl_fin (ns2 := (ns.erase d)) hT.1 (fun b hb => tr_k hT hb) ha hdm hD (er_l hdm) (er_m hl57_1.1 d) hT2_158
              exact g_vret B E dJ10_deleteEntry_245 (⟨_, _, _, _, _, _, _, lo3, hi3, _, _, rfl, rfl, hu1_158, hT3, hDn⟩)
        · skip
          refine g_aload_n (q := 96) B dJ10_deleteEntry_95 rfl rfl (rv_r _) ?_
          refine g_aload_n (q := 97) B dJ10_deleteEntry_96 rfl rfl (rv_r _) ?_
          refine g_put (q := 100) (L2 := [[(t, .inr (27, [.null, va_rf vs, .null, .ref rd_a77, .int (nI (n - 1)), .int (nI (md + 1)), va_rf es, va_rf nk, .null]))], we_9_85]) B (ci := 27) (k := 0) (j := 3) in_J10 tyJ10 tyJ10_ok nmJ10 rfl dJ10_deleteEntry_97 rfl rfl (Nat.le_of_ble_eq_true rfl) q1871 rfl rfl rfl rfl (Nat.le_of_ble_eq_true rfl) rfl ?_
          refine g_goto (tgt := 133) B dJ10_deleteEntry_100 (by decide) ?_
          refine g_aload_n (q := 134) B dJ10_deleteEntry_133 rfl rfl (rv_r _) ?_
          refine g_aload_n (q := 135) B dJ10_deleteEntry_134 rfl rfl (rv_r _) ?_
          refine g_aload_n (q := 136) B dJ10_deleteEntry_135 rfl rfl (rv_r _) ?_
          refine g_aconst_null (q := 137) B dJ10_deleteEntry_136 rfl ?_
          refine g_dup_x1 (q := 138) B dJ10_deleteEntry_137 rfl rfl rfl ?_
          refine g_putE4 (q := 141) (k := 1) (x := none) B hwe_9_85 hdm dJ10_deleteEntry_138 rfl rfl q2117 (fun we_18_138 hwe_18_138 => ?_)
          refine (show Go g κ 141 [some (.ref t), some (.ref d), some (.ref rd_a77)] [.null, .ref d, .ref d] [[(t, .inr (27, [.null, va_rf vs, .null, .ref rd_a77, .int (nI (n - 1)), .int (nI (md + 1)), va_rf es, va_rf nk, .null]))], we_18_138] 0 0 from ?_)
          refine g_dup_x1 (q := 142) B dJ10_deleteEntry_141 rfl rfl rfl ?_
          refine g_putE3 (q := 145) (k := 1) (x := none) B hwe_18_138 hdm dJ10_deleteEntry_142 rfl rfl q2115 (fun we_19_142 hwe_19_142 => ?_)
          refine (show Go g κ 145 [some (.ref t), some (.ref d), some (.ref rd_a77)] [.null, .ref d] [[(t, .inr (27, [.null, va_rf vs, .null, .ref rd_a77, .int (nI (n - 1)), .int (nI (md + 1)), va_rf es, va_rf nk, .null]))], we_19_142] 0 0 from ?_)
          refine g_putE2 (q := 148) (k := 1) (x := none) B hwe_19_142 hdm dJ10_deleteEntry_145 rfl rfl q2113 (fun we_20_145 hwe_20_145 => ?_)
          refine (show Go g κ 148 [some (.ref t), some (.ref d), some (.ref rd_a77)] [] [[(t, .inr (27, [.null, va_rf vs, .null, .ref rd_a77, .int (nI (n - 1)), .int (nI (md + 1)), va_rf es, va_rf nk, .null]))], we_20_145] 0 0 from ?_)
          refine g_aload_n (q := 149) B dJ10_deleteEntry_148 rfl rfl (rv_r _) ?_
          refine g_getM (v := .int (nI (if col d = true then 1 else 0))) (q := 152) B (ci := 28) (k := 1) (j := 5) in_J37 rfl dJ10_deleteEntry_149 rfl rfl (EntG.mem hwe_20_145 hdm) (Nat.le_of_ble_eq_true rfl) q2119 rfl rfl ?_
          refine g_iconst (v := nI 1) (q := 153) B dJ10_deleteEntry_152 rfl (by decide) ?_
          refine g_icmp_ne (tgt := 245) (q := 156) B dJ10_deleteEntry_153 rfl (by decide) (not_congr bo_eq1) (fun c153 => ?_) (fun c153 => ?_)
          · skip
            obtain ⟨wd, Rd, hpd, hwd⟩ := EntG.drop hwe_20_145 hdm
            refine g_sub 1 rfl hpd rfl ?_
            refine (show Go g κ 245 [some (.ref t), some (.ref d), some (.ref rd_a77)] [] [[(t, .inr (27, [.null, va_rf vs, .null, .ref rd_a77, .int (nI (n - 1)), .int (nI (md + 1)), va_rf es, va_rf nk, .null]))], wd] 0 0 from ?_)
            have hrt : lfRoot root p d rd_a77 = some rd_a77 := by unfold lfRoot; grind
            rw [hrt] at hTn
            have hwd2 : EntG g (ns.erase d) kc vc (lfC l p d rd_a77) (lfC r p d rd_a77) (lfP p d rd_a77) col wd := EntG.congr hwd (fun e he => by
              have z0 := (er_m hwe_20_145.1 d e).mp he
              have z1 := fun q => (hT.2.2.2.1 e z0.1 d q).2.1
              have z2 := fun q => (hT.2.2.2.2.2.1 e z0.1 d q).2.1
              have z3 := fun q => tr_lr (x := d) (b := e) hT z0.1 q
              have z4 := fun b q => (hT.2.2.2.2.2.2.2.1 d hdm b q).2
              refine ⟨rfl, rfl, ?_, ?_, ?_, rfl⟩ <;> grind [fup, lfC, lfP])
            obtain ⟨⟨lo3, hi3, hT3⟩, hDn⟩ := dl_fin (ns2 := (ns.erase d)) hT.1 (fun b hb => tr_k hT hb) ha hdm hD (er_l hdm) (er_m hl57_1.1 d) hTn
            exact g_vret B E dJ10_deleteEntry_245 (⟨_, _, _, _, _, _, _, lo3, hi3, _, _, rfl, rfl, hwd2, hT3, hDn⟩)
          · skip
            obtain ⟨wd, Rd, hpd, hwd⟩ := EntG.drop hwe_20_145 hdm
            refine g_sub 1 rfl hpd rfl ?_
            refine (show Go g κ 156 [some (.ref t), some (.ref d), some (.ref rd_a77)] [] [[(t, .inr (27, [.null, va_rf vs, .null, .ref rd_a77, .int (nI (n - 1)), .int (nI (md + 1)), va_rf es, va_rf nk, .null]))], wd] 0 0 from ?_)
            have hrt : lfRoot root p d rd_a77 = some rd_a77 := by unfold lfRoot; grind
            rw [hrt] at hTn
            have hwd2 : EntG g (ns.erase d) kc vc (lfC l p d rd_a77) (lfC r p d rd_a77) (lfP p d rd_a77) col wd := EntG.congr hwd (fun e he => by
              have z0 := (er_m hwe_20_145.1 d e).mp he
              have z1 := fun q => (hT.2.2.2.1 e z0.1 d q).2.1
              have z2 := fun q => (hT.2.2.2.2.2.1 e z0.1 d q).2.1
              have z3 := fun q => tr_lr (x := d) (b := e) hT z0.1 q
              have z4 := fun b q => (hT.2.2.2.2.2.2.2.1 d hdm b q).2
              refine ⟨rfl, rfl, ?_, ?_, ?_, rfl⟩ <;> grind [fup, lfC, lfP])
            refine g_aload_n (q := 157) B dJ10_deleteEntry_156 rfl rfl (rv_r _) ?_
            refine g_aload_n (q := 158) B dJ10_deleteEntry_157 rfl rfl (rv_r _) ?_
            refine g_callV (q := 161) (is := [0, 0]) (kc2 := 0) (ks2 := 0) B [.ref rd_a77] (ct_J10_fixAfterDeletion g J (t := t) (vs := vs) (n := n - 1) (md := md + 1) (es := es) (nk := nk) (ns := (ns.erase d)) (key := key) (val := vc) (l := (lfC l p d rd_a77)) (r := (lfC r p d rd_a77)) (p := (lfP p d rd_a77)) (col := col) (lo := _) (hi := _) (root := some rd_a77) (M := 128) (kc := kc) (x := rd_a77) (q := none) hwd2 (hTn) ((er_m hl57_1.1 d rd_a77).mpr ⟨hxm, hxd⟩) (fun a e => by cases e)) dJ10_deleteEntry_158 rfl (rc_at B (ci := 27) rfl (k := 0) rfl) rfl q2310 q2312 qs26 q91 q2313 rfl rfl moJ10_fixAfterDeletion rfl rfl (by decide) (by decide) (Nat.le_of_ble_eq_true rfl) (Nat.le_of_ble_eq_true rfl) (Nat.le_of_ble_eq_true rfl) (fun _ _ hx => noX_x hx) (fun v158 L1 hp158 => ?_)
            obtain ⟨l2158, r2158, p2158, col2158, lo2158, hi2158, root2158, u1_158, rfl, rfl, hu1_158, hT2_158, hq2_158⟩ := hp158
            refine (show Go g κ 161 [some (.ref t), some (.ref d), some (.ref rd_a77)] [] [[(t, .inr (27, [.null, va_rf vs, .null, va_rf root2158, .int (nI (n - 1)), .int (nI (md + 1)), va_rf es, va_rf nk, .null]))], u1_158] 0 0 from ?_)
            refine g_goto (tgt := 245) B dJ10_deleteEntry_161 (by decide) ?_
            obtain ⟨⟨lo3, hi3, hT3⟩, hDn⟩ := dl_fin (ns2 := (ns.erase d)) hT.1 (fun b hb => tr_k hT hb) ha hdm hD (er_l hdm) (er_m hl57_1.1 d) hT2_158
            exact g_vret B E dJ10_deleteEntry_245 (⟨_, _, _, _, _, _, _, lo3, hi3, _, _, rfl, rfl, hu1_158, hT3, hDn⟩)
    · skip
      refine g_aload_n (q := 65) B dJ10_deleteEntry_64 rfl rfl (rv_r _) ?_
      refine g_getM (v := .ref ld_a61) (q := 68) B (ci := 28) (k := 1) (j := 2) in_J37 rfl dJ10_deleteEntry_65 rfl rfl (EntG.mem hl57_1 hdm) (Nat.le_of_ble_eq_true rfl) q2113 rfl (congrArg some (congrArg va_rf c61)) ?_
      refine g_goto (tgt := 75) B dJ10_deleteEntry_68 (by decide) ?_
      refine g_astore_n (q := 76) (lv2 := [some (.ref t), some (.ref d), some (.ref ld_a61)]) B dJ10_deleteEntry_75 rfl (Nat.le_of_ble_eq_true rfl) (rv_r _) rfl ?_
      have hrd : r d = none := hd1.resolve_left (by rw [c61]; simp)
      have hxm := tr_lm hT hdm c61
      have hxd : ld_a61 ≠ d := by have z := wid_l hT hdm; rw [c61] at z; rintro rfl; omega
      have hTn := tr_liftL (ns2 := ns.erase d) hT (er_m hl57_1.1 d) hdm c61 hrd
      refine g_aload_n (q := 77) B dJ10_deleteEntry_76 rfl rfl (rv_r _) ?_
      refine g_ifnull_r (q := 80) B dJ10_deleteEntry_77 rfl ?_
      refine g_aload_n (q := 81) B dJ10_deleteEntry_80 rfl rfl (rv_r _) ?_
      refine g_aload_n (q := 82) B dJ10_deleteEntry_81 rfl rfl (rv_r _) ?_
      refine g_getM (v := va_rf (p d)) (q := 85) B (ci := 28) (k := 1) (j := 4) in_J37 rfl dJ10_deleteEntry_82 rfl rfl (EntG.mem hl57_1 hdm) (Nat.le_of_ble_eq_true rfl) q2117 rfl rfl ?_
      refine g_putE4 (q := 88) (k := 1) (x := p d) B hl57_1 hxm dJ10_deleteEntry_85 rfl rfl q2117 (fun we_21_85 hwe_21_85 => ?_)
      refine (show Go g κ 88 [some (.ref t), some (.ref d), some (.ref ld_a61)] [] [[(t, .inr (27, [.null, va_rf vs, .null, va_rf root, .int (nI (n - 1)), .int (nI (md + 1)), va_rf es, va_rf nk, .null]))], we_21_85] 0 0 from ?_)
      refine g_aload_n (q := 89) B dJ10_deleteEntry_88 rfl rfl (rv_r _) ?_
      refine g_getM (v := va_rf (p d)) (q := 92) B (ci := 28) (k := 1) (j := 4) in_J37 rfl dJ10_deleteEntry_89 rfl rfl (EntG.mem hwe_21_85 hdm) (Nat.le_of_ble_eq_true rfl) q2117 rfl (congrArg some (congrArg va_rf (fup_n (Ne.symm hxd)))) ?_
      refine g_ifnonnull_o (tgt := 103) (q := 95) B dJ10_deleteEntry_92 rfl (by decide) (fun pd_a92 c92 => ?_) (fun c92 => ?_)
      · skip
        have hbm := tr_pm hT hdm c92
        have hdb : d ≠ pd_a92 := (tr_3 hT hdm c92).1
        have hxb : ld_a61 ≠ pd_a92 := by
          have z1 := wid_p hT hdm c92
          have z2 := wid_l hT hdm
          rw [c61] at z2
          rintro rfl; omega
        refine g_aload_n (q := 104) B dJ10_deleteEntry_103 rfl rfl (rv_r _) ?_
        refine g_aload_n (q := 105) B dJ10_deleteEntry_104 rfl rfl (rv_r _) ?_
        refine g_getM (v := .ref pd_a92) (q := 108) B (ci := 28) (k := 1) (j := 4) in_J37 rfl dJ10_deleteEntry_105 rfl rfl (EntG.mem hwe_21_85 hdm) (Nat.le_of_ble_eq_true rfl) q2117 rfl (congrArg some (congrArg va_rf ((fup_n (Ne.symm hxd)).trans c92))) ?_
        refine g_getM (v := va_rf (l pd_a92)) (q := 111) B (ci := 28) (k := 1) (j := 2) in_J37 rfl dJ10_deleteEntry_108 rfl rfl (EntG.mem hwe_21_85 hbm) (Nat.le_of_ble_eq_true rfl) q2113 rfl rfl ?_
        refine g_acmp_ne (rx := some d) (ry := l pd_a92) (tgt := 125) (q := 114) B dJ10_deleteEntry_111 rfl (by decide) rfl rfl (acn) (fun c111 => ?_) (fun c111 => ?_)
        · skip
          refine g_aload_n (q := 126) B dJ10_deleteEntry_125 rfl rfl (rv_r _) ?_
          refine g_getM (v := .ref pd_a92) (q := 129) B (ci := 28) (k := 1) (j := 4) in_J37 rfl dJ10_deleteEntry_126 rfl rfl (EntG.mem hwe_21_85 hdm) (Nat.le_of_ble_eq_true rfl) q2117 rfl (congrArg some (congrArg va_rf ((fup_n (Ne.symm hxd)).trans c92))) ?_
          refine g_aload_n (q := 130) B dJ10_deleteEntry_129 rfl rfl (rv_r _) ?_
          refine g_putE3 (q := 133) (k := 1) (x := some ld_a61) B hwe_21_85 hbm dJ10_deleteEntry_130 rfl rfl q2115 (fun we_22_130 hwe_22_130 => ?_)
          refine (show Go g κ 133 [some (.ref t), some (.ref d), some (.ref ld_a61)] [] [[(t, .inr (27, [.null, va_rf vs, .null, va_rf root, .int (nI (n - 1)), .int (nI (md + 1)), va_rf es, va_rf nk, .null]))], we_22_130] 0 0 from ?_)
          refine g_aload_n (q := 134) B dJ10_deleteEntry_133 rfl rfl (rv_r _) ?_
          refine g_aload_n (q := 135) B dJ10_deleteEntry_134 rfl rfl (rv_r _) ?_
          refine g_aload_n (q := 136) B dJ10_deleteEntry_135 rfl rfl (rv_r _) ?_
          refine g_aconst_null (q := 137) B dJ10_deleteEntry_136 rfl ?_
          refine g_dup_x1 (q := 138) B dJ10_deleteEntry_137 rfl rfl rfl ?_
          refine g_putE4 (q := 141) (k := 1) (x := none) B hwe_22_130 hdm dJ10_deleteEntry_138 rfl rfl q2117 (fun we_23_138 hwe_23_138 => ?_)
          refine (show Go g κ 141 [some (.ref t), some (.ref d), some (.ref ld_a61)] [.null, .ref d, .ref d] [[(t, .inr (27, [.null, va_rf vs, .null, va_rf root, .int (nI (n - 1)), .int (nI (md + 1)), va_rf es, va_rf nk, .null]))], we_23_138] 0 0 from ?_)
          refine g_dup_x1 (q := 142) B dJ10_deleteEntry_141 rfl rfl rfl ?_
          refine g_putE3 (q := 145) (k := 1) (x := none) B hwe_23_138 hdm dJ10_deleteEntry_142 rfl rfl q2115 (fun we_24_142 hwe_24_142 => ?_)
          refine (show Go g κ 145 [some (.ref t), some (.ref d), some (.ref ld_a61)] [.null, .ref d] [[(t, .inr (27, [.null, va_rf vs, .null, va_rf root, .int (nI (n - 1)), .int (nI (md + 1)), va_rf es, va_rf nk, .null]))], we_24_142] 0 0 from ?_)
          refine g_putE2 (q := 148) (k := 1) (x := none) B hwe_24_142 hdm dJ10_deleteEntry_145 rfl rfl q2113 (fun we_25_145 hwe_25_145 => ?_)
          refine (show Go g κ 148 [some (.ref t), some (.ref d), some (.ref ld_a61)] [] [[(t, .inr (27, [.null, va_rf vs, .null, va_rf root, .int (nI (n - 1)), .int (nI (md + 1)), va_rf es, va_rf nk, .null]))], we_25_145] 0 0 from ?_)
          refine g_aload_n (q := 149) B dJ10_deleteEntry_148 rfl rfl (rv_r _) ?_
          refine g_getM (v := .int (nI (if col d = true then 1 else 0))) (q := 152) B (ci := 28) (k := 1) (j := 5) in_J37 rfl dJ10_deleteEntry_149 rfl rfl (EntG.mem hwe_25_145 hdm) (Nat.le_of_ble_eq_true rfl) q2119 rfl rfl ?_
          refine g_iconst (v := nI 1) (q := 153) B dJ10_deleteEntry_152 rfl (by decide) ?_
          refine g_icmp_ne (tgt := 245) (q := 156) B dJ10_deleteEntry_153 rfl (by decide) (not_congr bo_eq1) (fun c153 => ?_) (fun c153 => ?_)
          · skip
            obtain ⟨wd, Rd, hpd, hwd⟩ := EntG.drop hwe_25_145 hdm
            refine g_sub 1 rfl hpd rfl ?_
            refine (show Go g κ 245 [some (.ref t), some (.ref d), some (.ref ld_a61)] [] [[(t, .inr (27, [.null, va_rf vs, .null, va_rf root, .int (nI (n - 1)), .int (nI (md + 1)), va_rf es, va_rf nk, .null]))], wd] 0 0 from ?_)
            have hrt : lfRoot root p d ld_a61 = root := by unfold lfRoot; grind
            rw [hrt] at hTn
            have hwd2 : EntG g (ns.erase d) kc vc (lfC l p d ld_a61) (lfC r p d ld_a61) (lfP p d ld_a61) col wd := EntG.congr hwd (fun e he => by
              have z0 := (er_m hwe_25_145.1 d e).mp he
              have z1 := fun q => (hT.2.2.2.1 e z0.1 d q).2.1
              have z2 := fun q => (hT.2.2.2.2.2.1 e z0.1 d q).2.1
              have z3 := fun q => tr_lr (x := d) (b := e) hT z0.1 q
              have z4 := fun b q => (hT.2.2.2.2.2.2.2.1 d hdm b q).2
              refine ⟨rfl, rfl, ?_, ?_, ?_, rfl⟩ <;> grind [fup, lfC, lfP])
            obtain ⟨⟨lo3, hi3, hT3⟩, hDn⟩ := dl_fin (ns2 := (ns.erase d)) hT.1 (fun b hb => tr_k hT hb) ha hdm hD (er_l hdm) (er_m hl57_1.1 d) hTn
            exact g_vret B E dJ10_deleteEntry_245 (⟨_, _, _, _, _, _, _, lo3, hi3, _, _, rfl, rfl, hwd2, hT3, hDn⟩)
          · skip
            obtain ⟨wd, Rd, hpd, hwd⟩ := EntG.drop hwe_25_145 hdm
            refine g_sub 1 rfl hpd rfl ?_
            refine (show Go g κ 156 [some (.ref t), some (.ref d), some (.ref ld_a61)] [] [[(t, .inr (27, [.null, va_rf vs, .null, va_rf root, .int (nI (n - 1)), .int (nI (md + 1)), va_rf es, va_rf nk, .null]))], wd] 0 0 from ?_)
            have hrt : lfRoot root p d ld_a61 = root := by unfold lfRoot; grind
            rw [hrt] at hTn
            have hwd2 : EntG g (ns.erase d) kc vc (lfC l p d ld_a61) (lfC r p d ld_a61) (lfP p d ld_a61) col wd := EntG.congr hwd (fun e he => by
              have z0 := (er_m hwe_25_145.1 d e).mp he
              have z1 := fun q => (hT.2.2.2.1 e z0.1 d q).2.1
              have z2 := fun q => (hT.2.2.2.2.2.1 e z0.1 d q).2.1
              have z3 := fun q => tr_lr (x := d) (b := e) hT z0.1 q
              have z4 := fun b q => (hT.2.2.2.2.2.2.2.1 d hdm b q).2
              refine ⟨rfl, rfl, ?_, ?_, ?_, rfl⟩ <;> grind [fup, lfC, lfP])
            refine g_aload_n (q := 157) B dJ10_deleteEntry_156 rfl rfl (rv_r _) ?_
            refine g_aload_n (q := 158) B dJ10_deleteEntry_157 rfl rfl (rv_r _) ?_
            refine g_callV (q := 161) (is := [0, 0]) (kc2 := 0) (ks2 := 0) B [.ref ld_a61] (ct_J10_fixAfterDeletion g J (t := t) (vs := vs) (n := n - 1) (md := md + 1) (es := es) (nk := nk) (ns := (ns.erase d)) (key := key) (val := vc) (l := (lfC l p d ld_a61)) (r := (lfC r p d ld_a61)) (p := (lfP p d ld_a61)) (col := col) (lo := _) (hi := _) (root := root) (M := 128) (kc := kc) (x := ld_a61) (q := none) hwd2 (hTn) ((er_m hl57_1.1 d ld_a61).mpr ⟨hxm, hxd⟩) (fun a e => by cases e)) dJ10_deleteEntry_158 rfl (rc_at B (ci := 27) rfl (k := 0) rfl) rfl q2310 q2312 qs26 q91 q2313 rfl rfl moJ10_fixAfterDeletion rfl rfl (by decide) (by decide) (Nat.le_of_ble_eq_true rfl) (Nat.le_of_ble_eq_true rfl) (Nat.le_of_ble_eq_true rfl) (fun _ _ hx => noX_x hx) (fun v158 L1 hp158 => ?_)
            obtain ⟨l2158, r2158, p2158, col2158, lo2158, hi2158, root2158, u1_158, rfl, rfl, hu1_158, hT2_158, hq2_158⟩ := hp158
            refine (show Go g κ 161 [some (.ref t), some (.ref d), some (.ref ld_a61)] [] [[(t, .inr (27, [.null, va_rf vs, .null, va_rf root2158, .int (nI (n - 1)), .int (nI (md + 1)), va_rf es, va_rf nk, .null]))], u1_158] 0 0 from ?_)
            refine g_goto (tgt := 245) B dJ10_deleteEntry_161 (by decide) ?_
            obtain ⟨⟨lo3, hi3, hT3⟩, hDn⟩ := dl_fin (ns2 := (ns.erase d)) hT.1 (fun b hb => tr_k hT hb) ha hdm hD (er_l hdm) (er_m hl57_1.1 d) hT2_158
            exact g_vret B E dJ10_deleteEntry_245 (⟨_, _, _, _, _, _, _, lo3, hi3, _, _, rfl, rfl, hu1_158, hT3, hDn⟩)
        · skip
          refine g_aload_n (q := 115) B dJ10_deleteEntry_114 rfl rfl (rv_r _) ?_
          refine g_getM (v := .ref pd_a92) (q := 118) B (ci := 28) (k := 1) (j := 4) in_J37 rfl dJ10_deleteEntry_115 rfl rfl (EntG.mem hwe_21_85 hdm) (Nat.le_of_ble_eq_true rfl) q2117 rfl (congrArg some (congrArg va_rf ((fup_n (Ne.symm hxd)).trans c92))) ?_
          refine g_aload_n (q := 119) B dJ10_deleteEntry_118 rfl rfl (rv_r _) ?_
          refine g_putE2 (q := 122) (k := 1) (x := some ld_a61) B hwe_21_85 hbm dJ10_deleteEntry_119 rfl rfl q2113 (fun we_26_119 hwe_26_119 => ?_)
          refine (show Go g κ 122 [some (.ref t), some (.ref d), some (.ref ld_a61)] [] [[(t, .inr (27, [.null, va_rf vs, .null, va_rf root, .int (nI (n - 1)), .int (nI (md + 1)), va_rf es, va_rf nk, .null]))], we_26_119] 0 0 from ?_)
          refine g_goto (tgt := 133) B dJ10_deleteEntry_122 (by decide) ?_
          refine g_aload_n (q := 134) B dJ10_deleteEntry_133 rfl rfl (rv_r _) ?_
          refine g_aload_n (q := 135) B dJ10_deleteEntry_134 rfl rfl (rv_r _) ?_
          refine g_aload_n (q := 136) B dJ10_deleteEntry_135 rfl rfl (rv_r _) ?_
          refine g_aconst_null (q := 137) B dJ10_deleteEntry_136 rfl ?_
          refine g_dup_x1 (q := 138) B dJ10_deleteEntry_137 rfl rfl rfl ?_
          refine g_putE4 (q := 141) (k := 1) (x := none) B hwe_26_119 hdm dJ10_deleteEntry_138 rfl rfl q2117 (fun we_27_138 hwe_27_138 => ?_)
          refine (show Go g κ 141 [some (.ref t), some (.ref d), some (.ref ld_a61)] [.null, .ref d, .ref d] [[(t, .inr (27, [.null, va_rf vs, .null, va_rf root, .int (nI (n - 1)), .int (nI (md + 1)), va_rf es, va_rf nk, .null]))], we_27_138] 0 0 from ?_)
          refine g_dup_x1 (q := 142) B dJ10_deleteEntry_141 rfl rfl rfl ?_
          refine g_putE3 (q := 145) (k := 1) (x := none) B hwe_27_138 hdm dJ10_deleteEntry_142 rfl rfl q2115 (fun we_28_142 hwe_28_142 => ?_)
          refine (show Go g κ 145 [some (.ref t), some (.ref d), some (.ref ld_a61)] [.null, .ref d] [[(t, .inr (27, [.null, va_rf vs, .null, va_rf root, .int (nI (n - 1)), .int (nI (md + 1)), va_rf es, va_rf nk, .null]))], we_28_142] 0 0 from ?_)
          refine g_putE2 (q := 148) (k := 1) (x := none) B hwe_28_142 hdm dJ10_deleteEntry_145 rfl rfl q2113 (fun we_29_145 hwe_29_145 => ?_)
          refine (show Go g κ 148 [some (.ref t), some (.ref d), some (.ref ld_a61)] [] [[(t, .inr (27, [.null, va_rf vs, .null, va_rf root, .int (nI (n - 1)), .int (nI (md + 1)), va_rf es, va_rf nk, .null]))], we_29_145] 0 0 from ?_)
          refine g_aload_n (q := 149) B dJ10_deleteEntry_148 rfl rfl (rv_r _) ?_
          refine g_getM (v := .int (nI (if col d = true then 1 else 0))) (q := 152) B (ci := 28) (k := 1) (j := 5) in_J37 rfl dJ10_deleteEntry_149 rfl rfl (EntG.mem hwe_29_145 hdm) (Nat.le_of_ble_eq_true rfl) q2119 rfl rfl ?_
          refine g_iconst (v := nI 1) (q := 153) B dJ10_deleteEntry_152 rfl (by decide) ?_
          refine g_icmp_ne (tgt := 245) (q := 156) B dJ10_deleteEntry_153 rfl (by decide) (not_congr bo_eq1) (fun c153 => ?_) (fun c153 => ?_)
          · skip
            obtain ⟨wd, Rd, hpd, hwd⟩ := EntG.drop hwe_29_145 hdm
            refine g_sub 1 rfl hpd rfl ?_
            refine (show Go g κ 245 [some (.ref t), some (.ref d), some (.ref ld_a61)] [] [[(t, .inr (27, [.null, va_rf vs, .null, va_rf root, .int (nI (n - 1)), .int (nI (md + 1)), va_rf es, va_rf nk, .null]))], wd] 0 0 from ?_)
            have hrt : lfRoot root p d ld_a61 = root := by unfold lfRoot; grind
            rw [hrt] at hTn
            have hwd2 : EntG g (ns.erase d) kc vc (lfC l p d ld_a61) (lfC r p d ld_a61) (lfP p d ld_a61) col wd := EntG.congr hwd (fun e he => by
              have z0 := (er_m hwe_29_145.1 d e).mp he
              have z1 := fun q => (hT.2.2.2.1 e z0.1 d q).2.1
              have z2 := fun q => (hT.2.2.2.2.2.1 e z0.1 d q).2.1
              have z3 := fun q => tr_lr (x := d) (b := e) hT z0.1 q
              have z4 := fun b q => (hT.2.2.2.2.2.2.2.1 d hdm b q).2
              refine ⟨rfl, rfl, ?_, ?_, ?_, rfl⟩ <;> grind [fup, lfC, lfP])
            obtain ⟨⟨lo3, hi3, hT3⟩, hDn⟩ := dl_fin (ns2 := (ns.erase d)) hT.1 (fun b hb => tr_k hT hb) ha hdm hD (er_l hdm) (er_m hl57_1.1 d) hTn
            exact g_vret B E dJ10_deleteEntry_245 (⟨_, _, _, _, _, _, _, lo3, hi3, _, _, rfl, rfl, hwd2, hT3, hDn⟩)
          · skip
            obtain ⟨wd, Rd, hpd, hwd⟩ := EntG.drop hwe_29_145 hdm
            refine g_sub 1 rfl hpd rfl ?_
            refine (show Go g κ 156 [some (.ref t), some (.ref d), some (.ref ld_a61)] [] [[(t, .inr (27, [.null, va_rf vs, .null, va_rf root, .int (nI (n - 1)), .int (nI (md + 1)), va_rf es, va_rf nk, .null]))], wd] 0 0 from ?_)
            have hrt : lfRoot root p d ld_a61 = root := by unfold lfRoot; grind
            rw [hrt] at hTn
            have hwd2 : EntG g (ns.erase d) kc vc (lfC l p d ld_a61) (lfC r p d ld_a61) (lfP p d ld_a61) col wd := EntG.congr hwd (fun e he => by
              have z0 := (er_m hwe_29_145.1 d e).mp he
              have z1 := fun q => (hT.2.2.2.1 e z0.1 d q).2.1
              have z2 := fun q => (hT.2.2.2.2.2.1 e z0.1 d q).2.1
              have z3 := fun q => tr_lr (x := d) (b := e) hT z0.1 q
              have z4 := fun b q => (hT.2.2.2.2.2.2.2.1 d hdm b q).2
              refine ⟨rfl, rfl, ?_, ?_, ?_, rfl⟩ <;> grind [fup, lfC, lfP])
            refine g_aload_n (q := 157) B dJ10_deleteEntry_156 rfl rfl (rv_r _) ?_
            refine g_aload_n (q := 158) B dJ10_deleteEntry_157 rfl rfl (rv_r _) ?_
            refine g_callV (q := 161) (is := [0, 0]) (kc2 := 0) (ks2 := 0) B [.ref ld_a61] (ct_J10_fixAfterDeletion g J (t := t) (vs := vs) (n := n - 1) (md := md + 1) (es := es) (nk := nk) (ns := (ns.erase d)) (key := key) (val := vc) (l := (lfC l p d ld_a61)) (r := (lfC r p d ld_a61)) (p := (lfP p d ld_a61)) (col := col) (lo := _) (hi := _) (root := root) (M := 128) (kc := kc) (x := ld_a61) (q := none) hwd2 (hTn) ((er_m hl57_1.1 d ld_a61).mpr ⟨hxm, hxd⟩) (fun a e => by cases e)) dJ10_deleteEntry_158 rfl (rc_at B (ci := 27) rfl (k := 0) rfl) rfl q2310 q2312 qs26 q91 q2313 rfl rfl moJ10_fixAfterDeletion rfl rfl (by decide) (by decide) (Nat.le_of_ble_eq_true rfl) (Nat.le_of_ble_eq_true rfl) (Nat.le_of_ble_eq_true rfl) (fun _ _ hx => noX_x hx) (fun v158 L1 hp158 => ?_)
            obtain ⟨l2158, r2158, p2158, col2158, lo2158, hi2158, root2158, u1_158, rfl, rfl, hu1_158, hT2_158, hq2_158⟩ := hp158
            refine (show Go g κ 161 [some (.ref t), some (.ref d), some (.ref ld_a61)] [] [[(t, .inr (27, [.null, va_rf vs, .null, va_rf root2158, .int (nI (n - 1)), .int (nI (md + 1)), va_rf es, va_rf nk, .null]))], u1_158] 0 0 from ?_)
            refine g_goto (tgt := 245) B dJ10_deleteEntry_161 (by decide) ?_
            obtain ⟨⟨lo3, hi3, hT3⟩, hDn⟩ := dl_fin (ns2 := (ns.erase d)) hT.1 (fun b hb => tr_k hT hb) ha hdm hD (er_l hdm) (er_m hl57_1.1 d) hT2_158
            exact g_vret B E dJ10_deleteEntry_245 (⟨_, _, _, _, _, _, _, lo3, hi3, _, _, rfl, rfl, hu1_158, hT3, hDn⟩)
      · skip
        refine g_aload_n (q := 96) B dJ10_deleteEntry_95 rfl rfl (rv_r _) ?_
        refine g_aload_n (q := 97) B dJ10_deleteEntry_96 rfl rfl (rv_r _) ?_
        refine g_put (q := 100) (L2 := [[(t, .inr (27, [.null, va_rf vs, .null, .ref ld_a61, .int (nI (n - 1)), .int (nI (md + 1)), va_rf es, va_rf nk, .null]))], we_21_85]) B (ci := 27) (k := 0) (j := 3) in_J10 tyJ10 tyJ10_ok nmJ10 rfl dJ10_deleteEntry_97 rfl rfl (Nat.le_of_ble_eq_true rfl) q1871 rfl rfl rfl rfl (Nat.le_of_ble_eq_true rfl) rfl ?_
        refine g_goto (tgt := 133) B dJ10_deleteEntry_100 (by decide) ?_
        refine g_aload_n (q := 134) B dJ10_deleteEntry_133 rfl rfl (rv_r _) ?_
        refine g_aload_n (q := 135) B dJ10_deleteEntry_134 rfl rfl (rv_r _) ?_
        refine g_aload_n (q := 136) B dJ10_deleteEntry_135 rfl rfl (rv_r _) ?_
        refine g_aconst_null (q := 137) B dJ10_deleteEntry_136 rfl ?_
        refine g_dup_x1 (q := 138) B dJ10_deleteEntry_137 rfl rfl rfl ?_
        refine g_putE4 (q := 141) (k := 1) (x := none) B hwe_21_85 hdm dJ10_deleteEntry_138 rfl rfl q2117 (fun we_30_138 hwe_30_138 => ?_)
        refine (show Go g κ 141 [some (.ref t), some (.ref d), some (.ref ld_a61)] [.null, .ref d, .ref d] [[(t, .inr (27, [.null, va_rf vs, .null, .ref ld_a61, .int (nI (n - 1)), .int (nI (md + 1)), va_rf es, va_rf nk, .null]))], we_30_138] 0 0 from ?_)
        refine g_dup_x1 (q := 142) B dJ10_deleteEntry_141 rfl rfl rfl ?_
        refine g_putE3 (q := 145) (k := 1) (x := none) B hwe_30_138 hdm dJ10_deleteEntry_142 rfl rfl q2115 (fun we_31_142 hwe_31_142 => ?_)
        refine (show Go g κ 145 [some (.ref t), some (.ref d), some (.ref ld_a61)] [.null, .ref d] [[(t, .inr (27, [.null, va_rf vs, .null, .ref ld_a61, .int (nI (n - 1)), .int (nI (md + 1)), va_rf es, va_rf nk, .null]))], we_31_142] 0 0 from ?_)
        refine g_putE2 (q := 148) (k := 1) (x := none) B hwe_31_142 hdm dJ10_deleteEntry_145 rfl rfl q2113 (fun we_32_145 hwe_32_145 => ?_)
        refine (show Go g κ 148 [some (.ref t), some (.ref d), some (.ref ld_a61)] [] [[(t, .inr (27, [.null, va_rf vs, .null, .ref ld_a61, .int (nI (n - 1)), .int (nI (md + 1)), va_rf es, va_rf nk, .null]))], we_32_145] 0 0 from ?_)
        refine g_aload_n (q := 149) B dJ10_deleteEntry_148 rfl rfl (rv_r _) ?_
        refine g_getM (v := .int (nI (if col d = true then 1 else 0))) (q := 152) B (ci := 28) (k := 1) (j := 5) in_J37 rfl dJ10_deleteEntry_149 rfl rfl (EntG.mem hwe_32_145 hdm) (Nat.le_of_ble_eq_true rfl) q2119 rfl rfl ?_
        refine g_iconst (v := nI 1) (q := 153) B dJ10_deleteEntry_152 rfl (by decide) ?_
        refine g_icmp_ne (tgt := 245) (q := 156) B dJ10_deleteEntry_153 rfl (by decide) (not_congr bo_eq1) (fun c153 => ?_) (fun c153 => ?_)
        · skip
          obtain ⟨wd, Rd, hpd, hwd⟩ := EntG.drop hwe_32_145 hdm
          refine g_sub 1 rfl hpd rfl ?_
          refine (show Go g κ 245 [some (.ref t), some (.ref d), some (.ref ld_a61)] [] [[(t, .inr (27, [.null, va_rf vs, .null, .ref ld_a61, .int (nI (n - 1)), .int (nI (md + 1)), va_rf es, va_rf nk, .null]))], wd] 0 0 from ?_)
          have hrt : lfRoot root p d ld_a61 = some ld_a61 := by unfold lfRoot; grind
          rw [hrt] at hTn
          have hwd2 : EntG g (ns.erase d) kc vc (lfC l p d ld_a61) (lfC r p d ld_a61) (lfP p d ld_a61) col wd := EntG.congr hwd (fun e he => by
            have z0 := (er_m hwe_32_145.1 d e).mp he
            have z1 := fun q => (hT.2.2.2.1 e z0.1 d q).2.1
            have z2 := fun q => (hT.2.2.2.2.2.1 e z0.1 d q).2.1
            have z3 := fun q => tr_lr (x := d) (b := e) hT z0.1 q
            have z4 := fun b q => (hT.2.2.2.2.2.2.2.1 d hdm b q).2
            refine ⟨rfl, rfl, ?_, ?_, ?_, rfl⟩ <;> grind [fup, lfC, lfP])
          obtain ⟨⟨lo3, hi3, hT3⟩, hDn⟩ := dl_fin (ns2 := (ns.erase d)) hT.1 (fun b hb => tr_k hT hb) ha hdm hD (er_l hdm) (er_m hl57_1.1 d) hTn
          exact g_vret B E dJ10_deleteEntry_245 (⟨_, _, _, _, _, _, _, lo3, hi3, _, _, rfl, rfl, hwd2, hT3, hDn⟩)
        · skip
          obtain ⟨wd, Rd, hpd, hwd⟩ := EntG.drop hwe_32_145 hdm
          refine g_sub 1 rfl hpd rfl ?_
          refine (show Go g κ 156 [some (.ref t), some (.ref d), some (.ref ld_a61)] [] [[(t, .inr (27, [.null, va_rf vs, .null, .ref ld_a61, .int (nI (n - 1)), .int (nI (md + 1)), va_rf es, va_rf nk, .null]))], wd] 0 0 from ?_)
          have hrt : lfRoot root p d ld_a61 = some ld_a61 := by unfold lfRoot; grind
          rw [hrt] at hTn
          have hwd2 : EntG g (ns.erase d) kc vc (lfC l p d ld_a61) (lfC r p d ld_a61) (lfP p d ld_a61) col wd := EntG.congr hwd (fun e he => by
            have z0 := (er_m hwe_32_145.1 d e).mp he
            have z1 := fun q => (hT.2.2.2.1 e z0.1 d q).2.1
            have z2 := fun q => (hT.2.2.2.2.2.1 e z0.1 d q).2.1
            have z3 := fun q => tr_lr (x := d) (b := e) hT z0.1 q
            have z4 := fun b q => (hT.2.2.2.2.2.2.2.1 d hdm b q).2
            refine ⟨rfl, rfl, ?_, ?_, ?_, rfl⟩ <;> grind [fup, lfC, lfP])
          refine g_aload_n (q := 157) B dJ10_deleteEntry_156 rfl rfl (rv_r _) ?_
          refine g_aload_n (q := 158) B dJ10_deleteEntry_157 rfl rfl (rv_r _) ?_
          refine g_callV (q := 161) (is := [0, 0]) (kc2 := 0) (ks2 := 0) B [.ref ld_a61] (ct_J10_fixAfterDeletion g J (t := t) (vs := vs) (n := n - 1) (md := md + 1) (es := es) (nk := nk) (ns := (ns.erase d)) (key := key) (val := vc) (l := (lfC l p d ld_a61)) (r := (lfC r p d ld_a61)) (p := (lfP p d ld_a61)) (col := col) (lo := _) (hi := _) (root := some ld_a61) (M := 128) (kc := kc) (x := ld_a61) (q := none) hwd2 (hTn) ((er_m hl57_1.1 d ld_a61).mpr ⟨hxm, hxd⟩) (fun a e => by cases e)) dJ10_deleteEntry_158 rfl (rc_at B (ci := 27) rfl (k := 0) rfl) rfl q2310 q2312 qs26 q91 q2313 rfl rfl moJ10_fixAfterDeletion rfl rfl (by decide) (by decide) (Nat.le_of_ble_eq_true rfl) (Nat.le_of_ble_eq_true rfl) (Nat.le_of_ble_eq_true rfl) (fun _ _ hx => noX_x hx) (fun v158 L1 hp158 => ?_)
          obtain ⟨l2158, r2158, p2158, col2158, lo2158, hi2158, root2158, u1_158, rfl, rfl, hu1_158, hT2_158, hq2_158⟩ := hp158
          refine (show Go g κ 161 [some (.ref t), some (.ref d), some (.ref ld_a61)] [] [[(t, .inr (27, [.null, va_rf vs, .null, va_rf root2158, .int (nI (n - 1)), .int (nI (md + 1)), va_rf es, va_rf nk, .null]))], u1_158] 0 0 from ?_)
          refine g_goto (tgt := 245) B dJ10_deleteEntry_161 (by decide) ?_
          obtain ⟨⟨lo3, hi3, hT3⟩, hDn⟩ := dl_fin (ns2 := (ns.erase d)) hT.1 (fun b hb => tr_k hT hb) ha hdm hD (er_l hdm) (er_m hl57_1.1 d) hT2_158
          exact g_vret B E dJ10_deleteEntry_245 (⟨_, _, _, _, _, _, _, lo3, hi3, _, _, rfl, rfl, hu1_158, hT3, hDn⟩)
  refine g_aload_n (q := 1) B dJ10_deleteEntry_0 rfl rfl (rv_r _) ?_
  refine g_dup (q := 2) B dJ10_deleteEntry_1 rfl rfl ?_
  refine g_get (q := 5) B (ci := 27) (k := 0) (j := 5) in_J10 rfl dJ10_deleteEntry_2 rfl rfl (Nat.le_of_ble_eq_true rfl) q1873 rfl rfl ?_
  refine g_iconst (v := nI 1) (q := 6) B dJ10_deleteEntry_5 rfl (by decide) ?_
  refine g_iadd (v := nI (md + 1)) (q := 7) B dJ10_deleteEntry_6 rfl (nI_add _ _) ?_
  refine g_put (q := 10) (L2 := [[(t, .inr (27, [.null, va_rf vs, .null, va_rf root, .int (nI n), .int (nI (md + 1)), va_rf es, va_rf nk, .null]))], w1]) B (ci := 27) (k := 0) (j := 5) in_J10 tyJ10 tyJ10_ok nmJ10 rfl dJ10_deleteEntry_7 rfl rfl (Nat.le_of_ble_eq_true rfl) q1873 rfl rfl rfl rfl (Nat.le_of_ble_eq_true rfl) rfl ?_
  refine g_aload_n (q := 11) B dJ10_deleteEntry_10 rfl rfl (rv_r _) ?_
  refine g_dup (q := 12) B dJ10_deleteEntry_11 rfl rfl ?_
  refine g_get (q := 15) B (ci := 27) (k := 0) (j := 4) in_J10 rfl dJ10_deleteEntry_12 rfl rfl (Nat.le_of_ble_eq_true rfl) q1872 rfl rfl ?_
  refine g_iconst (v := nI 1) (q := 16) B dJ10_deleteEntry_15 rfl (by decide) ?_
  refine g_isub (v := nI (n - 1)) (q := 17) B dJ10_deleteEntry_16 rfl (pk_sub (by omega)) ?_
  refine g_put (q := 20) (L2 := [[(t, .inr (27, [.null, va_rf vs, .null, va_rf root, .int (nI (n - 1)), .int (nI (md + 1)), va_rf es, va_rf nk, .null]))], w1]) B (ci := 27) (k := 0) (j := 4) in_J10 tyJ10 tyJ10_ok nmJ10 rfl dJ10_deleteEntry_17 rfl rfl (Nat.le_of_ble_eq_true rfl) q1872 rfl rfl rfl rfl (Nat.le_of_ble_eq_true rfl) rfl ?_
  refine g_aload_n (q := 21) B dJ10_deleteEntry_20 rfl rfl (rv_r _) ?_
  refine g_getM (v := va_rf (l a)) (q := 24) B (ci := 28) (k := 1) (j := 2) in_J37 rfl dJ10_deleteEntry_21 rfl rfl (EntG.mem hw1 ha) (Nat.le_of_ble_eq_true rfl) q2113 rfl rfl ?_
  refine g_ifnull_o (tgt := 57) (q := 27) B dJ10_deleteEntry_24 rfl (by decide) (fun c24 => ?_) (fun la_a24 c24 => ?_)
  · skip
    exact ct57 a key val w1 hw1 (ha) (Or.inl ⟨rfl, rfl, rfl, fun z => z.1 c24⟩) (Or.inl c24)
  · skip
    refine g_aload_n (q := 28) B dJ10_deleteEntry_27 rfl rfl (rv_r _) ?_
    refine g_getM (v := va_rf (r a)) (q := 31) B (ci := 28) (k := 1) (j := 3) in_J37 rfl dJ10_deleteEntry_28 rfl rfl (EntG.mem hw1 ha) (Nat.le_of_ble_eq_true rfl) q2115 rfl rfl ?_
    refine g_ifnull_o (tgt := 57) (q := 34) B dJ10_deleteEntry_31 rfl (by decide) (fun c31 => ?_) (fun ra_a31 c31 => ?_)
    · skip
      exact ct57 a key val w1 hw1 (ha) (Or.inl ⟨rfl, rfl, rfl, fun z => z.2 c31⟩) (Or.inr c31)
    · skip
      refine g_aload_n (q := 35) B dJ10_deleteEntry_34 rfl rfl (rv_r _) ?_
      refine g_callS (q := 38) (is := [1]) (kc2 := 0) (ks2 := 0) B [.ref a] (ct_J10_successor g J (ns := ns) (key := key) (val := val) (l := l) (r := r) (p := p) (col := col) (lo := lo) (hi := hi) (root := root) (M := 128) (a := a) hw1 (by first | assumption | omega | rfl) (by first | assumption | omega | rfl)) dJ10_deleteEntry_35 rfl q2309 q1032 q91 q1033 rfl rfl moJ10_successor rfl rfl (by decide) (by decide) (Nat.le_of_ble_eq_true rfl) (Nat.le_of_ble_eq_true rfl) (Nat.le_of_ble_eq_true rfl) (fun _ _ hx => noX_x hx) (fun v35 L1 hp35 => ?_)
      obtain ⟨e35, rfl, rfl, he_35, hlf_35⟩ := hp35
      refine (show Go g κ 38 [some (.ref t), some (.ref a), none] [va_rf e35] [[(t, .inr (27, [.null, va_rf vs, .null, va_rf root, .int (nI (n - 1)), .int (nI (md + 1)), va_rf es, va_rf nk, .null]))], w1] 0 0 from ?_)
      obtain ⟨s, hse, hsl⟩ := hlf_35 _ c31
      have hsm := (he_35.1 s hse).1
      have hsa : s ≠ a := by rintro rfl; have := (he_35.1 s hse).2.1; omega
      subst hse
      refine (show Go g κ 38 [some (.ref t), some (.ref a), none] [.ref s] [[(t, .inr (27, [.null, va_rf vs, .null, va_rf root, .int (nI (n - 1)), .int (nI (md + 1)), va_rf es, va_rf nk, .null]))], w1] 0 0 from ?_)
      refine g_astore_n (q := 39) (lv2 := [some (.ref t), some (.ref a), some (.ref s)]) B dJ10_deleteEntry_38 rfl (Nat.le_of_ble_eq_true rfl) (rv_r _) rfl ?_
      refine g_aload_n (q := 40) B dJ10_deleteEntry_39 rfl rfl (rv_r _) ?_
      refine g_aload_n (q := 41) B dJ10_deleteEntry_40 rfl rfl (rv_r _) ?_
      refine g_getM (v := .ref (kI g (key s))) (q := 44) B (ci := 28) (k := 1) (j := 0) in_J37 rfl dJ10_deleteEntry_41 rfl rfl (EntG.mem hw1 hsm) (Nat.le_of_ble_eq_true rfl) q2108 rfl rfl ?_
      refine g_putE0 (q := 47) (k := 1) (x := (key s)) B hw1 ha dJ10_deleteEntry_44 rfl rfl q2108 (fun we_33_44 hwe_33_44 => ?_)
      refine (show Go g κ 47 [some (.ref t), some (.ref a), some (.ref s)] [] [[(t, .inr (27, [.null, va_rf vs, .null, va_rf root, .int (nI (n - 1)), .int (nI (md + 1)), va_rf es, va_rf nk, .null]))], we_33_44] 0 0 from ?_)
      refine g_aload_n (q := 48) B dJ10_deleteEntry_47 rfl rfl (rv_r _) ?_
      refine g_aload_n (q := 49) B dJ10_deleteEntry_48 rfl rfl (rv_r _) ?_
      refine g_getM (v := .ref (val s)) (q := 52) B (ci := 28) (k := 1) (j := 1) in_J37 rfl dJ10_deleteEntry_49 rfl rfl (EntG.mem hwe_33_44 hsm) (Nat.le_of_ble_eq_true rfl) q2111 rfl rfl ?_
      refine g_putE1 (q := 55) (k := 1) (x := (val s)) B hwe_33_44 ha dJ10_deleteEntry_52 rfl rfl q2111 (fun we_34_52 hwe_34_52 => ?_)
      refine (show Go g κ 55 [some (.ref t), some (.ref a), some (.ref s)] [] [[(t, .inr (27, [.null, va_rf vs, .null, va_rf root, .int (nI (n - 1)), .int (nI (md + 1)), va_rf es, va_rf nk, .null]))], we_34_52] 0 0 from ?_)
      refine g_aload_n (q := 56) B dJ10_deleteEntry_55 rfl rfl (rv_r _) ?_
      refine g_astore_n (q := 57) (lv2 := [some (.ref t), some (.ref s), some (.ref s)]) B dJ10_deleteEntry_56 rfl (Nat.le_of_ble_eq_true rfl) (rv_r _) rfl ?_
      refine g_fg 2 rfl ?_
      exact ct57 s (fup key a (key s)) (fup val a (val s)) we_34_52 hwe_34_52 (hsm) (Or.inr ⟨hsa, ⟨by rw [c24]; simp, by rw [c31]; simp⟩, he_35, rfl, rfl⟩) (Or.inl hsl)
