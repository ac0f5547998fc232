set_option maxRecDepth 100000
/-! hash codes of the keys "a,l" and "a,b,3" differ (numbers below 1000) -/
def hM : Nat := 4294967296
def hN (c : List Nat) : Nat := c.foldl (fun h b => 31 * h + b) 0
/-- the most that a tail of digits gives -/
def hT : List (Nat × Nat × Nat) → Nat
  | [] => 0
  | (c, w, _) :: t => c * w + hT t
/-- no digits k (k ≤ w each) with s + Σ c * k = 0 mod hM, but (nz = false) the digits e -/
def nos : List (Nat × Nat × Nat) → Nat → Bool → Bool
  | [], s, nz => !nz || s % hM != 0
  | (c, w, e) :: t, s, nz => if c * w + hT t < (hM - s % hM) % hM then true else (List.range (w + 1)).all fun k => nos t (s + c * k) (nz || k != e)
def hFit : List (Nat × Nat × Nat) → List Nat → Prop
  | [], [] => True
  | (_, w, _) :: t, k :: ks => k ≤ w ∧ hFit t ks
  | _, _ => False
def hDot : List (Nat × Nat × Nat) → List Nat → Nat
  | (c, _, _) :: t, k :: ks => c * k + hDot t ks
  | _, _ => 0
def hEq : List (Nat × Nat × Nat) → List Nat → Prop
  | (_, _, e) :: t, k :: ks => k = e ∧ hEq t ks
  | _, _ => True
theorem hDot_le : ∀ {l : List (Nat × Nat × Nat)} {ks : List Nat}, hFit l ks → hDot l ks ≤ hT l
  | [], [], _ => Nat.le_refl _
  | (c, w, e) :: t, k :: ks, h => Nat.add_le_add (Nat.mul_le_mul_left c h.1) (hDot_le h.2)
  | [], _ :: _, h => h.elim
  | _ :: _, [], h => h.elim
theorem nos_ok : ∀ (l : List (Nat × Nat × Nat)) (s : Nat) (nz : Bool) (ks : List Nat), nos l s nz = true → hFit l ks → (s + hDot l ks) % hM = 0 → nz = false ∧ hEq l ks
  | [], s, nz, [], h, _, hz => by
    simp only [nos, Bool.or_eq_true, Bool.not_eq_true', bne_iff_ne, ne_eq] at h
    simp only [hDot, Nat.add_zero] at hz
    rcases h with h | h
    · exact ⟨h, trivial⟩
    · exact absurd hz h
  | (c, w, e) :: t, s, nz, k :: ks, h, hf, hz => by
    have hle := hDot_le hf
    unfold nos at h
    split at h
    · rename_i hlt
      exfalso
      simp only [hT, hDot] at hle hz
      have hM0 : hM = 4294967296 := rfl
      rw [hM0] at hlt hz
      omega
    · rw [List.all_eq_true] at h
      have h1 := h k (List.mem_range.mpr (by have := hf.1; omega))
      have hz2 : (s + c * k + hDot t ks) % hM = 0 := by simp only [hDot] at hz; rw [Nat.add_assoc]; exact hz
      have h2 := nos_ok t (s + c * k) (nz || k != e) ks h1 hf.2 hz2
      have h3 := h2.1
      simp only [Bool.or_eq_false_iff, bne_eq_false_iff_eq] at h3
      exact ⟨h3.1, h3.2, h2.2⟩
  | [], _, _, _ :: _, _, hf, _ => hf.elim
  | _ :: _, _, _, [], _, hf, _ => hf.elim
/-! shapes: of each place the least sign and how many more -/
def sFit : List (Nat × Nat) → List Nat → Prop
  | [], [] => True
  | (_, w) :: t, d :: ds => d ≤ w ∧ sFit t ds
  | _, _ => False
def sTx : List (Nat × Nat) → List Nat → List Nat
  | (b, _) :: t, d :: ds => (b + d) :: sTx t ds
  | _, _ => []
def hP : List Nat → Nat
  | [] => 0
  | b :: t => b * 31 ^ t.length + hP t
theorem hN_fold : ∀ (c : List Nat) (h : Nat), c.foldl (fun h b => 31 * h + b) h = h * 31 ^ c.length + hP c
  | [], h => by simp [hP]
  | b :: t, h => by
    rw [List.foldl_cons, hN_fold t]
    simp only [hP, List.length_cons, Nat.pow_succ]
    grind
theorem hN_hP (c : List Nat) : hN c = hP c := by rw [hN, hN_fold]; simp
/-- two shapes of one length against each other -/
def sL : List (Nat × Nat) → List (Nat × Nat) → List (Nat × Nat × Nat)
  | (_, w1) :: t1, (_, w2) :: t2 => (31 ^ t1.length, w1 + w2, w2) :: sL t1 t2
  | _, _ => []
def sB : List (Nat × Nat) → Nat
  | [] => 0
  | (b, _) :: t => b * 31 ^ t.length + sB t
def sU : List (Nat × Nat) → Nat
  | [] => 0
  | (b, w) :: t => (b + w) * 31 ^ t.length + sU t
def sK : List (Nat × Nat) → List Nat → List Nat → List Nat
  | (_, w2) :: t2, d1 :: ds1, d2 :: ds2 => (d1 + (w2 - d2)) :: sK t2 ds1 ds2
  | _, _, _ => []
theorem sTx_len : ∀ {s : List (Nat × Nat)} {ds : List Nat}, sFit s ds → (sTx s ds).length = s.length
  | [], [], _ => rfl
  | (b, w) :: t, d :: ds, h => by simp only [sTx, List.length_cons]; rw [sTx_len h.2]
  | [], _ :: _, h => h.elim
  | _ :: _, [], h => h.elim
theorem sK_ok : ∀ {s1 s2 : List (Nat × Nat)} {ds1 ds2 : List Nat}, s1.length = s2.length → sFit s1 ds1 → sFit s2 ds2 → hFit (sL s1 s2) (sK s2 ds1 ds2) ∧ hP (sTx s1 ds1) + sU s2 = sB s1 + hDot (sL s1 s2) (sK s2 ds1 ds2) + hP (sTx s2 ds2) ∧ (hEq (sL s1 s2) (sK s2 ds1 ds2) → ds1 = ds2)
  | [], [], [], [], _, _, _ => ⟨trivial, rfl, fun _ => rfl⟩
  | (b1, w1) :: t1, (b2, w2) :: t2, d1 :: ds1, d2 :: ds2, hl, h1, h2 => by
    have hl2 : t1.length = t2.length := by simpa using hl
    obtain ⟨i1, i2, i3⟩ := sK_ok hl2 h1.2 h2.2
    have e1 := sTx_len h1.2
    have e2 := sTx_len h2.2
    refine ⟨⟨by have := h1.1; have := h2.1; omega, i1⟩, ?_, fun h => ?_⟩
    · simp only [sTx, hP, sU, sB, sL, sK, hDot, e1, e2, hl2]
      rw [hl2] at *
      have q := h2.1
      obtain ⟨r, rfl⟩ : ∃ r, w2 = d2 + r := ⟨w2 - d2, by omega⟩
      have : d2 + r - d2 = r := by omega
      rw [this]
      grind
    · have q := h.1
      have q2 := h2.1
      have : d1 = d2 := by omega
      rw [this, i3 h.2]
  | [], [], [], _ :: _, _, _, h => h.elim
  | [], [], _ :: _, _, _, h, _ => h.elim
  | _ :: _, _ :: _, [], _, _, h, _ => h.elim
  | _ :: _, _ :: _, _ :: _, [], _, _, h => h.elim
  | [], _ :: _, _, _, hl, _, _ => by simp at hl
  | _ :: _, [], _, _, hl, _, _ => by simp at hl
def sGo (s1 s2 : List (Nat × Nat)) (nz : Bool) : Bool := nos (sL s1 s2) ((sB s1 + (hM * 100000 - sU s2)) % hM) nz
theorem sGo_ok {s1 s2 : List (Nat × Nat)} {ds1 ds2 : List Nat} {nz : Bool} (hg : sGo s1 s2 nz = true) (hl : s1.length = s2.length) (hU : sU s2 ≤ hM * 100000) (h1 : sFit s1 ds1) (h2 : sFit s2 ds2) (he : hN (sTx s1 ds1) % hM = hN (sTx s2 ds2) % hM) : nz = false ∧ ds1 = ds2 := by
  obtain ⟨i1, i2, i3⟩ := sK_ok hl h1 h2
  rw [hN_hP, hN_hP] at he
  have he2 : hP (sTx s1 ds1) % 4294967296 = hP (sTx s2 ds2) % 4294967296 := he
  have hU2 : sU s2 ≤ 4294967296 * 100000 := hU
  have := nos_ok _ _ _ _ hg i1 (by
    show ((sB s1 + (4294967296 * 100000 - sU s2)) % 4294967296 + hDot (sL s1 s2) (sK s2 ds1 ds2)) % 4294967296 = 0
    clear he hU hg i3 i1 h1 h2
    omega)
  exact ⟨this.1, i3 this.2⟩
/-! the shapes of the keys, with places of 0 ahead up to nine -/
def dS : Nat → List (Nat × Nat)
  | 0 => [(48, 9)]
  | 1 => [(48, 9), (48, 9)]
  | _ => [(48, 9), (48, 9), (48, 9)]
/-- shape n: 0..8: "a,b,3" by the lengths of a and b; 9..11: "a,l"; 12..14: "a,1.." -/
def kS (n : Nat) : List (Nat × Nat) :=
  if n < 9 then dS (n / 3) ++ ((44, 0) :: (dS (n % 3) ++ [(44, 0), (51, 0)]))
  else if n < 12 then dS (n - 9) ++ [(44, 0), (48, 9)]
  else dS (n - 12) ++ [(44, 0), (49, 0), (48, 1), (48, 9)]
def kZ (n : Nat) : List (Nat × Nat) := List.replicate (9 - (kS n).length) (0, 0) ++ kS n
def kAll : Bool := (List.range 15).all fun i => (List.range 15).all fun j => sGo (kZ i) (kZ j) (i != j)
theorem kAll_ok : kAll = true := by decide +kernel
theorem kZ_len : ∀ i, i < 15 → (kZ i).length = 9 ∧ sU (kZ i) ≤ hM * 100000 := by decide +kernel
theorem sFit_z : ∀ (n : Nat) {s : List (Nat × Nat)} {ds : List Nat}, sFit s ds → sFit (List.replicate n (0, 0) ++ s) (List.replicate n 0 ++ ds)
  | 0, s, ds, h => h
  | n + 1, s, ds, h => ⟨Nat.le_refl _, sFit_z n h⟩
theorem hN_z : ∀ (n : Nat) (c : List Nat), hN (List.replicate n 0 ++ c) = hN c
  | 0, c => rfl
  | n + 1, c => by
    rw [List.replicate_succ, List.cons_append]
    show (List.replicate n 0 ++ c).foldl _ (31 * 0 + 0) = _
    exact hN_z n c
theorem sTx_z : ∀ (n : Nat) {s : List (Nat × Nat)} {ds : List Nat}, sTx (List.replicate n (0, 0) ++ s) (List.replicate n 0 ++ ds) = List.replicate n 0 ++ sTx s ds
  | 0, s, ds => rfl
  | n + 1, s, ds => by
    rw [List.replicate_succ, List.replicate_succ, List.cons_append, List.cons_append]
    show (0 + 0) :: sTx _ _ = _
    rw [sTx_z n]; rfl
theorem sFit_len : ∀ {s : List (Nat × Nat)} {ds : List Nat}, sFit s ds → ds.length = s.length
  | [], [], _ => rfl
  | (b, w) :: t, d :: ds, h => by simp only [List.length_cons]; rw [sFit_len h.2]
  | [], _ :: _, h => h.elim
  | _ :: _, [], h => h.elim
theorem kS_inj {i j : Nat} {ds1 ds2 : List Nat} (hi : i < 15) (hj : j < 15) (h1 : sFit (kS i) ds1) (h2 : sFit (kS j) ds2) (he : hN (sTx (kS i) ds1) % hM = hN (sTx (kS j) ds2) % hM) : i = j ∧ ds1 = ds2 := by
  have hg := kAll_ok
  unfold kAll at hg
  rw [List.all_eq_true] at hg
  have hg := hg i (List.mem_range.mpr hi)
  rw [List.all_eq_true] at hg
  have hg := hg j (List.mem_range.mpr hj)
  have q1 := kZ_len i hi
  have q2 := kZ_len j hj
  have := sGo_ok hg (by rw [q1.1, q2.1]) q2.2 (sFit_z (9 - (kS i).length) h1) (sFit_z (9 - (kS j).length) h2) (by unfold kZ at *; rw [sTx_z, sTx_z, hN_z, hN_z]; exact he)
  have hij : i = j := by simpa using this.1
  subst hij
  exact ⟨rfl, List.append_cancel_left this.2⟩
/-! numbers in tens -/
def dec (n : Nat) : List Nat := if n < 10 then [48 + n] else if n < 100 then [48 + n / 10, 48 + n % 10] else [48 + n / 100, 48 + n / 10 % 10, 48 + n % 10]
def dcs (n : Nat) : Nat := if n < 10 then 0 else if n < 100 then 1 else 2
def dcd (n : Nat) : List Nat := if n < 10 then [n] else if n < 100 then [n / 10, n % 10] else [n / 100, n / 10 % 10, n % 10]
theorem dcd_fit {n : Nat} (h : n < 1000) : sFit (dS (dcs n)) (dcd n) ∧ sTx (dS (dcs n)) (dcd n) = dec n ∧ dcs n < 3 := by
  unfold dcs dcd dec
  split
  · exact ⟨⟨by omega, trivial⟩, rfl, by omega⟩
  · split
    · exact ⟨⟨by omega, by omega, trivial⟩, rfl, by omega⟩
    · exact ⟨⟨by omega, by omega, by omega, trivial⟩, rfl, by omega⟩
theorem dcd_inj {n m : Nat} (h : dcs n = dcs m) (h2 : dcd n = dcd m) (hn : n < 1000) (hm : m < 1000) : n = m := by
  unfold dcd at h2
  clear h
  by_cases n1 : n < 10 <;> by_cases n2 : n < 100 <;> by_cases m1 : m < 10 <;> by_cases m2 : m < 100 <;> simp [n1, n2, m1, m2] at h2 <;> omega
theorem sFit_app : ∀ {s1 s2 : List (Nat × Nat)} {d1 d2 : List Nat}, sFit s1 d1 → sFit s2 d2 → sFit (s1 ++ s2) (d1 ++ d2)
  | [], s2, [], d2, _, h => h
  | _ :: _, s2, _ :: _, d2, h1, h => ⟨h1.1, sFit_app h1.2 h⟩
  | [], _, _ :: _, _, h, _ => h.elim
  | _ :: _, _, [], _, h, _ => h.elim
theorem sTx_app : ∀ {s1 s2 : List (Nat × Nat)} {d1 d2 : List Nat}, sFit s1 d1 → sTx (s1 ++ s2) (d1 ++ d2) = sTx s1 d1 ++ sTx s2 d2
  | [], s2, [], d2, _ => rfl
  | (b, w) :: t, s2, d :: ds, d2, h1 => by simp only [List.cons_append, sTx]; rw [sTx_app h1.2]
  | [], _, _ :: _, _, h => h.elim
  | _ :: _, _, [], _, h => h.elim
/-- a key: one, other (none: "one,label"), label -/
abbrev Ky : Type := Nat × Option Nat × Nat
def kTx : Ky → List Nat
  | (a, none, l) => dec a ++ (44 :: dec l)
  | (a, some b, l) => dec a ++ (44 :: (dec b ++ (44 :: dec l)))
/-- the keys that are met -/
def kOk : Ky → Prop
  | (a, none, l) => a < 1000 ∧ (l < 10 ∨ (100 ≤ l ∧ l < 120))
  | (a, some b, l) => a < 1000 ∧ b < 1000 ∧ l = 3
def kSh : Ky → Nat
  | (a, none, l) => if l < 10 then 9 + dcs a else 12 + dcs a
  | (a, some b, _) => 3 * dcs a + dcs b
def kDg : Ky → List Nat
  | (a, none, l) => if l < 10 then dcd a ++ [0, l] else dcd a ++ [0, 0, l / 10 % 10, l % 10]
  | (a, some b, _) => dcd a ++ (0 :: (dcd b ++ [0, 0]))
theorem kOk_fit {k : Ky} (h : kOk k) : kSh k < 15 ∧ sFit (kS (kSh k)) (kDg k) ∧ sTx (kS (kSh k)) (kDg k) = kTx k := by
  obtain ⟨a, o, l⟩ := k
  cases o with
  | none =>
    obtain ⟨ha, hl⟩ := h
    obtain ⟨f1, f2, f3⟩ := dcd_fit ha
    by_cases h10 : l < 10
    · simp only [kSh, kDg, kTx, if_pos h10]
      have e : kS (9 + dcs a) = dS (dcs a) ++ [(44, 0), (48, 9)] := by unfold kS; rw [if_neg (by omega), if_pos (by omega)]; congr 2; omega
      rw [e]
      refine ⟨by omega, sFit_app f1 ⟨Nat.le_refl _, by omega, trivial⟩, ?_⟩
      rw [sTx_app f1, f2]
      simp [sTx, dec, h10]
    · simp only [kSh, kDg, kTx, if_neg h10]
      have e : kS (12 + dcs a) = dS (dcs a) ++ [(44, 0), (49, 0), (48, 1), (48, 9)] := by unfold kS; rw [if_neg (by omega), if_neg (by omega)]; congr 2; omega
      rw [e]
      refine ⟨by omega, sFit_app f1 ⟨Nat.le_refl _, Nat.le_refl _, by omega, by omega, trivial⟩, ?_⟩
      rw [sTx_app f1, f2]
      have h100 : ¬ l < 100 := by omega
      simp only [sTx, dec, if_neg h10, if_neg h100]
      congr 3
      omega
  | some b =>
    obtain ⟨ha, hb, rfl⟩ := h
    obtain ⟨f1, f2, f3⟩ := dcd_fit ha
    obtain ⟨g1, g2, g3⟩ := dcd_fit hb
    simp only [kSh, kDg, kTx]
    have e : kS (3 * dcs a + dcs b) = dS (dcs a) ++ ((44, 0) :: (dS (dcs b) ++ [(44, 0), (51, 0)])) := by unfold kS; rw [if_pos (by omega), show (3 * dcs a + dcs b) / 3 = dcs a by omega, show (3 * dcs a + dcs b) % 3 = dcs b by omega]
    rw [e]
    refine ⟨by omega, sFit_app f1 ⟨Nat.le_refl _, sFit_app g1 ⟨Nat.le_refl _, Nat.le_refl _, trivial⟩⟩, ?_⟩
    rw [sTx_app f1, f2]
    show _ ++ (44 + 0) :: sTx _ _ = _
    rw [sTx_app g1, g2]
    rfl
theorem dcd_len {n : Nat} : (dcd n).length = dcs n + 1 := by
  unfold dcd dcs
  by_cases h1 : n < 10
  · simp [h1]
  · by_cases h2 : n < 100 <;> simp [h1, h2]
theorem ky_inj {k1 k2 : Ky} (h1 : kOk k1) (h2 : kOk k2) (he : hN (kTx k1) % hM = hN (kTx k2) % hM) : k1 = k2 := by
  obtain ⟨a1, a2, a3⟩ := kOk_fit h1
  obtain ⟨b1, b2, b3⟩ := kOk_fit h2
  have h := kS_inj a1 b1 a2 b2 (by rw [a3, b3]; exact he)
  obtain ⟨a, o, l⟩ := k1
  obtain ⟨a', o', l'⟩ := k2
  obtain ⟨hs, hd⟩ := h
  cases o with
  | none =>
    have ha := (dcd_fit h1.1).2.2
    have ha' := (dcd_fit (n := a') (by cases o' <;> exact h2.1)).2.2
    cases o' with
    | none =>
      simp only [kSh, kDg] at hs hd
      have hl := h1.2
      have hl' := h2.2
      by_cases q : l < 10 <;> by_cases q' : l' < 10
      · rw [if_pos q, if_pos q'] at hs hd
        obtain ⟨d1, d2⟩ := List.append_inj hd (by rw [dcd_len, dcd_len]; omega)
        rw [dcd_inj (by omega) d1 h1.1 h2.1]
        simp at d2
        rw [d2]
      · rw [if_pos q, if_neg q'] at hs; omega
      · rw [if_neg q, if_pos q'] at hs; omega
      · rw [if_neg q, if_neg q'] at hs hd
        obtain ⟨d1, d2⟩ := List.append_inj hd (by rw [dcd_len, dcd_len]; omega)
        rw [dcd_inj (by omega) d1 h1.1 h2.1]
        simp at d2
        have : l = l' := by omega
        rw [this]
    | some b' =>
      have hb' := (dcd_fit h2.2.1).2.2
      simp only [kSh] at hs
      split at hs <;> omega
  | some b =>
    have ha := (dcd_fit h1.1).2.2
    have hb := (dcd_fit h1.2.1).2.2
    have ha' := (dcd_fit (n := a') (by cases o' <;> exact h2.1)).2.2
    cases o' with
    | none =>
      simp only [kSh] at hs
      split at hs <;> omega
    | some b' =>
      have hb' := (dcd_fit h2.2.1).2.2
      simp only [kSh, kDg] at hs hd
      obtain ⟨d1, d2⟩ := List.append_inj hd (by rw [dcd_len, dcd_len]; omega)
      have d3 := (List.cons.inj d2).2
      obtain ⟨d4, d5⟩ := List.append_inj d3 (by rw [dcd_len, dcd_len]; omega)
      rw [dcd_inj (by omega) d1 h1.1 h2.1, dcd_inj (by omega) d4 h1.2.1 h2.2.1, h1.2.2, h2.2.2]
