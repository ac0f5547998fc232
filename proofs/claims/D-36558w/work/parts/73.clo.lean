set_option maxRecDepth 100000
/-! ===== what can be found: the least closed set ===== -/
/-- what follows from K by the secret s -/
def prm (K : Nat → Bool) (s : Sec) : Prop := ∃ o, s.2.1 = some o ∧ K o = true ∧ ∀ q, s.2.2.1 = some q → K q = true
def ClK (ss : List Sec) (bx : List (Nat × Nat)) (vs : List Nat) (x : Nat) : Prop := ∀ P : Nat → Prop, (∀ v ∈ vs, P v) → (∀ i s o, ss[i]? = some s → s.2.1 = some o → P o → (∀ q, s.2.2.1 = some q → P q) → P i) → (∀ p ∈ bx, P p.1 → P p.2) → P x
section
variable {ss : List Sec} {bx : List (Nat × Nat)} {vs : List Nat} {K : Nat → Bool}
theorem ClK.of (v : Nat) (h : v ∈ vs) : ClK ss bx vs v := fun _ h1 _ _ => h1 v h
theorem ClK.sec {i : Nat} {s : Sec} (hs : ss[i]? = some s) (hp : prm K s) (h : ∀ x, K x = true → ClK ss bx vs x) : ClK ss bx vs i := by
  obtain ⟨o, e, ho, hq⟩ := hp
  exact fun P h1 h2 h3 => h2 i s o hs e (h o ho P h1 h2 h3) fun q eq => h q (hq q eq) P h1 h2 h3
theorem ClK.box {p : Nat × Nat} (hp : p ∈ bx) (h : ClK ss bx vs p.1) : ClK ss bx vs p.2 := fun P h1 h2 h3 => h3 p hp (h P h1 h2 h3)
/-- closed, and holding all from which it goes out -/
def ClsK (ss : List Sec) (bx : List (Nat × Nat)) (K : Nat → Bool) : Prop := (∀ i s, ss[i]? = some s → prm K s → K i = true) ∧ ∀ p ∈ bx, K p.1 = true → K p.2 = true
theorem ClK.all (h : ClsK ss bx K) (hv : ∀ v ∈ vs, K v = true) {x : Nat} (hx : ClK ss bx vs x) : K x = true := by
  refine hx (fun x => K x = true) hv (fun i s o hs ho hk hq => ?_) h.2
  exact h.1 i s hs ⟨o, ho, hk, hq⟩
end
def ctK (K : Nat → Bool) : Nat := fb_ct K 2048
theorem ct_same {K : Nat → Bool} : ∀ {m n : Nat}, m ≤ n → (∀ i, m ≤ i → K i = false) → fb_ct K n = fb_ct K m
  | m, 0, h, _ => by rw [Nat.le_zero.mp h]
  | m, n + 1, h, hk => by
    rcases Nat.lt_or_ge n m with h1 | h1
    · rw [show m = n + 1 by omega]
    · rw [fb_ct_succ, ct_same h1 hk, hk n h1]; rfl
theorem ct_sub {K L : Nat → Bool} (h : ∀ i, K i = true → L i = true) : ∀ n, fb_ct K n ≤ fb_ct L n
  | 0 => Nat.le_refl _
  | n + 1 => by
    have ih := ct_sub h n
    rw [fb_ct_succ, fb_ct_succ]
    by_cases hk : K n = true
    · rw [if_pos hk, if_pos (h n hk)]; omega
    · rw [if_neg hk]; omega
theorem ct_eq {K L : Nat → Bool} (h : ∀ i, K i = true → L i = true) : ∀ n, fb_ct L n ≤ fb_ct K n → ∀ i, i < n → L i = true → K i = true
  | 0, _, i, hi, _ => absurd hi (Nat.not_lt_zero i)
  | n + 1, hc, i, hi, hl => by
    have ih := ct_sub h n
    rw [fb_ct_succ, fb_ct_succ] at hc
    by_cases hk : K n = true
    · rw [if_pos hk, if_pos (h n hk)] at hc
      rcases Nat.lt_or_ge i n with h1 | h1
      · exact ct_eq h n (by omega) i h1 hl
      · rw [show i = n by omega]; exact hk
    · rw [if_neg hk] at hc
      by_cases hl2 : L n = true
      · rw [if_pos hl2] at hc; omega
      · rw [if_neg hl2] at hc
        rcases Nat.lt_or_ge i n with h1 | h1
        · exact ct_eq h n (by omega) i h1 hl
        · rw [show i = n by omega] at hl; exact absurd hl hl2
theorem SetP.bd {g : Gv} {b : Nat} {S : Nat → Bool} {cap : Nat} {w : va_W} (h : SetP g b S cap w) : ∀ i, 64 * cap ≤ i → S i = false := by
  obtain ⟨n, arr, h1, -, -, h2, -⟩ := h
  exact fun i hi => h2 i (by omega)
theorem SetP.ct {g : Gv} {b : Nat} {S : Nat → Bool} {cap : Nat} {w : va_W} (h : SetP g b S cap w) (hc : cap ≤ 30) : fb_ct S (64 * cap) = ctK S := (ct_same (by omega) h.bd).symm
theorem capN_b {cap m : Nat} (h : cap ≤ 30) (hm : m ≤ 16) : cap ≤ capN cap m ∧ capN cap m ≤ 30 ∧ (cap < m → 1 ≤ capN cap m - cap ∧ max (2 * cap) m ≤ 2 * (capN cap m - cap)) := by
  unfold capN
  split
  · omega
  · omega
theorem sIns_1 (S : Nat → Bool) (i : Nat) : sIns S i i = true := by unfold sIns; simp
theorem sIns_m {S : Nat → Bool} {i j : Nat} (h : S j = true) : sIns S i j = true := by unfold sIns; simp [h]
theorem sIns_o {S : Nat → Bool} {i j : Nat} (h : sIns S i j = true) : j = i ∨ S j = true := by unfold sIns at h; simpa using h
/-- the scan: one more secret looked at -/
theorem scn_y {ss : List Sec} {bx : List (Nat × Nat)} {vs : List Nat} {K K1 : Nat → Bool} {k : Nat} {s : Sec} (hs : ss[k]? = some s) (hp : prm K1 s) (h1 : ∀ x, K x = true → K1 x = true) (h2 : ∀ x, K1 x = true → ClK ss bx vs x ∧ x < ss.length) (h3 : ∀ i r, i < k → ss[i]? = some r → prm K r → K1 i = true) : (∀ x, K x = true → sIns K1 k x = true) ∧ (∀ x, sIns K1 k x = true → ClK ss bx vs x ∧ x < ss.length) ∧ (∀ i r, i < k + 1 → ss[i]? = some r → prm K r → sIns K1 k i = true) := by
  refine ⟨fun x hx => sIns_m (h1 x hx), fun x hx => ?_, fun i r hi hr hpr => ?_⟩
  · rcases sIns_o hx with rfl | hx
    · exact ⟨ClK.sec hs hp fun y hy => (h2 y hy).1, get_lt2 hs⟩
    · exact h2 x hx
  · rcases Nat.lt_or_ge i k with z | z
    · exact sIns_m (h3 i r z hr hpr)
    · rw [show i = k by omega]; exact sIns_1 _ _
theorem scn_n {ss : List Sec} {K K1 : Nat → Bool} {k : Nat} {s : Sec} (hs : ss[k]? = some s) (hp : ¬ prm K1 s) (h1 : ∀ x, K x = true → K1 x = true) (h3 : ∀ i r, i < k → ss[i]? = some r → prm K r → K1 i = true) : ∀ i r, i < k + 1 → ss[i]? = some r → prm K r → K1 i = true := by
  intro i r hi hr hpr
  rcases Nat.lt_or_ge i k with z | z
  · exact h3 i r z hr hpr
  · rw [show i = k by omega] at hr
    rw [hs] at hr; cases hr
    obtain ⟨o, e, ho, hq⟩ := hpr
    exact absurd ⟨o, e, h1 o ho, fun q eq => h1 q (hq q eq)⟩ hp
