set_option maxRecDepth 100000
/-! words of 64 truths -/
def wdN (S : Nat → Bool) (k : Nat) : Nat → Nat
  | 0 => 0
  | m + 1 => wdN S k m + (if S (64 * k + m) then 2 ^ m else 0)
def wd (S : Nat → Bool) (k : Nat) : Nat := wdN S k 64
theorem wdN_lt (S : Nat → Bool) (k : Nat) : ∀ m, wdN S k m < 2 ^ m
  | 0 => by simp [wdN]
  | m + 1 => by
    have h := wdN_lt S k m
    rw [wdN, Nat.pow_succ]
    split <;> omega
theorem wdN_bit (S : Nat → Bool) (k j : Nat) : ∀ m, (wdN S k m).testBit j = (decide (j < m) && S (64 * k + j))
  | 0 => by simp [wdN]
  | m + 1 => by
    have h := wdN_lt S k m
    have ih := wdN_bit S k j m
    rw [wdN]
    by_cases hs : S (64 * k + m) = true
    · rw [if_pos hs, Nat.add_comm, show 2 ^ m = 2 ^ m * 1 from (Nat.mul_one _).symm, Nat.testBit_two_pow_mul_add 1 h]
      by_cases h1 : j < m
      · rw [if_pos h1, ih]; simp [h1, show j < m + 1 by omega]
      · rw [if_neg h1]
        by_cases h2 : j = m
        · subst h2; simp [hs]
        · have h3 : ¬ j < m + 1 := by omega
          simp only [h3, decide_false, Bool.false_and]
          rw [show (1 : Nat) = 2 ^ 0 from rfl, Nat.testBit_two_pow]
          simp; omega
    · rw [if_neg hs, Nat.add_zero, ih]
      by_cases h2 : j = m
      · subst h2; simp [hs]
      · by_cases h1 : j < m
        · simp [h1, show j < m + 1 by omega]
        · simp [h1, show ¬ j < m + 1 by omega]
theorem wd_lt (S : Nat → Bool) (k : Nat) : wd S k < 2 ^ 64 := wdN_lt S k 64
theorem wd_bit (S : Nat → Bool) (k j : Nat) : (wd S k).testBit j = (decide (j < 64) && S (64 * k + j)) := wdN_bit S k j 64
theorem wd_eq {S : Nat → Bool} {k n : Nat} (h : ∀ j, n.testBit j = (decide (j < 64) && S (64 * k + j))) : n = wd S k := Nat.eq_of_testBit_eq fun j => by rw [h, wd_bit]
theorem wd_0 {S : Nat → Bool} {k : Nat} (h : ∀ j, j < 64 → S (64 * k + j) = false) : wd S k = 0 := by
  refine (wd_eq fun j => ?_).symm
  rw [Nat.zero_testBit]
  by_cases hj : j < 64
  · rw [h j hj]; simp
  · simp [hj]
theorem wd_ne {S : Nat → Bool} {k : Nat} : wd S k = 0 ↔ ∀ j, j < 64 → S (64 * k + j) = false := by
  refine ⟨fun h j hj => ?_, wd_0⟩
  have := wd_bit S k j
  rw [h, Nat.zero_testBit] at this
  simpa [hj] using this.symm
/-- one more -/
def sIns (S : Nat → Bool) (i : Nat) : Nat → Bool := fun j => j == i || S j
theorem wd_ins (S : Nat → Bool) (i : Nat) : wd S (i / 64) ||| 2 ^ (i % 64) = wd (sIns S i) (i / 64) := by
  refine wd_eq fun j => ?_
  rw [Nat.testBit_or, wd_bit, Nat.testBit_two_pow]
  by_cases hj : j < 64
  · by_cases h : i % 64 = j
    · have : 64 * (i / 64) + j = i := by omega
      simp [sIns, h, hj, this]
    · have : ¬ 64 * (i / 64) + j = i := by omega
      simp [sIns, h, hj, this]
  · have : ¬ i % 64 = j := by omega
    simp [hj, this]
theorem wd_ins_ne (S : Nat → Bool) {i k : Nat} (h : k ≠ i / 64) : wd (sIns S i) k = wd S k := by
  refine (wd_eq fun j => ?_).symm
  rw [wd_bit]
  by_cases hj : j < 64
  · have : ¬ 64 * k + j = i := by omega
    simp [sIns, hj, this]
  · simp [hj]
theorem wd_or (S T : Nat → Bool) (k : Nat) : wd S k ||| wd T k = wd (fun j => S j || T j) k := by
  refine wd_eq fun j => ?_
  rw [Nat.testBit_or, wd_bit, wd_bit]
  by_cases hj : j < 64 <;> simp [hj]
theorem wd_get {S : Nat → Bool} {i : Nat} : wd S (i / 64) &&& 2 ^ (i % 64) = 0 ↔ S i = false := by
  rw [fb_bit_nat, wd_bit]
  have h1 : i % 64 < 64 := by omega
  have h2 : 64 * (i / 64) + i % 64 = i := by omega
  rw [h2]
  simp [h1]
/-! shifts by a whole index -/
theorem sh_amt {i : Nat} (hi : i < 2 ^ 31) : (nI i).toInt64 &&& 63 = lN (i % 64) := by
  rw [nI_l hi, show (63 : Int64) = lN (2 ^ 6 - 1) from rfl, wb_mask (by omega) (by decide)]
theorem sh_one {i : Nat} (hi : i < 2 ^ 31) : (1 : Int64) <<< ((nI i).toInt64 &&& 63) = lN (2 ^ (i % 64)) := by
  have h := wb_shl 1 (k := i % 64) (by omega)
  rw [wb_c (i % 64) (by omega)] at h
  rw [sh_amt hi, show (1 : Int64) = lN 1 from rfl, h, Nat.one_mul]
theorem lN_0 : lN 0 = 0 := rfl
theorem lN_eq0 {n : Nat} (h : n < 2 ^ 64) : lN n = 0 ↔ n = 0 := by
  constructor
  · intro e
    have := congrArg (fun x => x.toBitVec.toNat) e
    simp only [wb_tn h] at this
    simpa using this
  · rintro rfl; rfl
theorem lcmp0 {n : Nat} (h : n < 2 ^ 64) : lg_cmp (lN n) 0 = 0 ↔ n = 0 := by
  unfold lg_cmp
  rw [← lN_eq0 h]
  by_cases h0 : lN n = 0
  · simp [h0]
  · by_cases h1 : lN n > 0
    · simp [h1, h0]
    · simp [h1, h0]
/-! how many: bytes, then all -/
def pcB (b : Nat) : Nat := b % 2 + b / 2 % 2 + b / 4 % 2 + b / 8 % 2 + b / 16 % 2 + b / 32 % 2 + b / 64 % 2 + b / 128 % 2
def pcA (n M1 M2 M3 : Nat) : Nat := (((n - (n / 2 &&& M1)) &&& M2) + ((n - (n / 2 &&& M1)) / 4 &&& M2) + (((n - (n / 2 &&& M1)) &&& M2) + ((n - (n / 2 &&& M1)) / 4 &&& M2)) / 16) &&& M3
theorem and_split {b p : Nat} (m q : Nat) (hb : b < 256) (hp : p < 256) : (b + 256 * m) &&& (p + 256 * q) = (b &&& p) + 256 * (m &&& q) := by
  have h1 : (b &&& p) < 2 ^ 8 := Nat.lt_of_le_of_lt Nat.and_le_left hb
  refine Nat.eq_of_testBit_eq fun j => ?_
  rw [Nat.testBit_and, Nat.add_comm b, Nat.add_comm p, Nat.add_comm (b &&& p), show (256 : Nat) = 2 ^ 8 from rfl, Nat.testBit_two_pow_mul_add m hb, Nat.testBit_two_pow_mul_add q hp, Nat.testBit_two_pow_mul_add (m &&& q) h1]
  by_cases h : j < 8
  · simp only [h, if_true, Nat.testBit_and]
  · simp only [h, if_false, Nat.testBit_and]
theorem pc_d1 : ∀ b, b < 256 → ∀ r, r < 2 → (b / 2 + 128 * r &&& 85) = (b / 2 &&& 85) := by decide +kernel
theorem pc_d1b : ∀ b, b < 256 → (b / 2 &&& 85) ≤ b := by decide +kernel
theorem pc_d2 : ∀ a, a < 256 → ∀ r, r < 4 → (a / 4 + 64 * r &&& 51) = (a / 4 &&& 51) := by decide +kernel
def pcL (b : Nat) : Nat := ((b - (b / 2 &&& 85)) &&& 51) + ((b - (b / 2 &&& 85)) / 4 &&& 51)
theorem pc_d3 : ∀ b, b < 256 → pcL b ≤ 102 := by decide +kernel
theorem pc_d4 : ∀ b, b < 256 → ∀ r, r < 7 → (pcL b + (pcL b / 16 + 16 * r) &&& 15) = pcB b := by decide +kernel
theorem pc_d5 : ∀ b, b < 256 → ∀ r, r < 7 → pcL b + (pcL b / 16 + 16 * r) < 256 := by decide +kernel
theorem and_mod16 (a q : Nat) (hq : q % 16 ≤ 3) : (a &&& q) % 16 ≤ 3 := by
  have : (a &&& q) % 16 = (a % 16) &&& (q % 16) := by
    rw [show (16 : Nat) = 2 ^ 4 from rfl]
    refine Nat.eq_of_testBit_eq fun j => ?_
    rw [Nat.testBit_and, Nat.testBit_mod_two_pow, Nat.testBit_mod_two_pow, Nat.testBit_mod_two_pow, Nat.testBit_and]
    by_cases h : j < 4 <;> simp [h]
  rw [this]
  exact Nat.le_trans Nat.and_le_right hq
theorem pcA_step {b m q1 q2 q3 : Nat} (hb : b < 256) (hq : q2 % 16 ≤ 3) : pcA (b + 256 * m) (85 + 256 * q1) (51 + 256 * q2) (15 + 256 * q3) = pcB b + 256 * pcA m q1 q2 q3 := by
  unfold pcA
  have e1 : (b + 256 * m) / 2 = (b / 2 + 128 * (m % 2)) + 256 * (m / 2) := by omega
  have e2 : (b + 256 * m) / 2 &&& (85 + 256 * q1) = (b / 2 &&& 85) + 256 * (m / 2 &&& q1) := by
    rw [e1, and_split _ _ (by omega) (by decide), pc_d1 b hb _ (by omega)]
  have hx := pc_d1b b hb
  have hX : (m / 2 &&& q1) ≤ m := Nat.le_trans Nat.and_le_left (by omega)
  rw [e2]
  generalize hx1 : (b / 2 &&& 85) = x at *
  generalize (m / 2 &&& q1) = X at *
  have e3 : b + 256 * m - (x + 256 * X) = (b - x) + 256 * (m - X) := by omega
  rw [e3]
  have e4 : (b - x) + 256 * (m - X) &&& (51 + 256 * q2) = ((b - x) &&& 51) + 256 * ((m - X) &&& q2) := and_split _ _ (by omega) (by decide)
  have e5 : ((b - x) + 256 * (m - X)) / 4 = ((b - x) / 4 + 64 * ((m - X) % 4)) + 256 * ((m - X) / 4) := by omega
  have e6 : ((b - x) + 256 * (m - X)) / 4 &&& (51 + 256 * q2) = ((b - x) / 4 &&& 51) + 256 * ((m - X) / 4 &&& q2) := by
    rw [e5, and_split _ _ (by omega) (by decide), pc_d2 (b - x) (by omega) _ (by omega)]
  rw [e4, e6]
  have hL : ((b - x) &&& 51) + ((b - x) / 4 &&& 51) = pcL b := by unfold pcL; rw [hx1]
  have n1 := and_mod16 (m - X) q2 hq
  have n2 := and_mod16 ((m - X) / 4) q2 hq
  generalize ((m - X) &&& q2) = Y at *
  generalize ((m - X) / 4 &&& q2) = Z at *
  have e7 : ((b - x) &&& 51) + 256 * Y + (((b - x) / 4 &&& 51) + 256 * Z) = pcL b + 256 * (Y + Z) := by omega
  rw [e7]
  have h3 := pc_d3 b hb
  have e8 : (pcL b + 256 * (Y + Z)) + (pcL b + 256 * (Y + Z)) / 16 = (pcL b + (pcL b / 16 + 16 * ((Y + Z) % 16))) + 256 * ((Y + Z) + (Y + Z) / 16) := by omega
  rw [e8, and_split _ _ (pc_d5 b hb _ (by omega)) (by decide), pc_d4 b hb _ (by omega)]
theorem pcB_le : ∀ b, b < 256 → pcB b ≤ 8 := by decide +kernel
/-- the whole of it, by bytes -/
theorem pc_all {n : Nat} (hn : n < 2 ^ 64) : pcA n 6148914691236517205 3689348814741910323 1085102592571150095 = pcB (n % 256) + 256 * (pcB (n / 256 % 256) + 256 * (pcB (n / 65536 % 256) + 256 * (pcB (n / 16777216 % 256) + 256 * (pcB (n / 4294967296 % 256) + 256 * (pcB (n / 1099511627776 % 256) + 256 * (pcB (n / 281474976710656 % 256) + 256 * pcB (n / 72057594037927936 % 256))))))) := by
  have step : ∀ (n q1 q2 q3 : Nat), q2 % 16 ≤ 3 → pcA n (85 + 256 * q1) (51 + 256 * q2) (15 + 256 * q3) = pcB (n % 256) + 256 * pcA (n / 256) q1 q2 q3 := by
    intro n q1 q2 q3 hq
    conv => lhs; rw [show n = n % 256 + 256 * (n / 256) by omega]
    exact pcA_step (by omega) hq
  rw [show (6148914691236517205 : Nat) = 85 + 256 * (85 + 256 * (85 + 256 * (85 + 256 * (85 + 256 * (85 + 256 * (85 + 256 * (85 + 256 * 0))))))) from rfl, show (3689348814741910323 : Nat) = 51 + 256 * (51 + 256 * (51 + 256 * (51 + 256 * (51 + 256 * (51 + 256 * (51 + 256 * (51 + 256 * 0))))))) from rfl, show (1085102592571150095 : Nat) = 15 + 256 * (15 + 256 * (15 + 256 * (15 + 256 * (15 + 256 * (15 + 256 * (15 + 256 * (15 + 256 * 0))))))) from rfl]
  rw [step _ _ _ _ (by decide), step _ _ _ _ (by decide), step _ _ _ _ (by decide), step _ _ _ _ (by decide), step _ _ _ _ (by decide), step _ _ _ _ (by decide), step _ _ _ _ (by decide), step _ _ _ _ (by decide)]
  simp only [Nat.div_div_eq_div_mul]
  rw [show pcA (n / (256 * 256 * 256 * 256 * 256 * 256 * 256 * 256)) 0 0 0 = 0 by unfold pcA; simp]
  simp only [Nat.reduceMul, Nat.mul_zero, Nat.add_zero]
def pc64 (n : Nat) : Nat := pcB (n % 256) + pcB (n / 256 % 256) + pcB (n / 65536 % 256) + pcB (n / 16777216 % 256) + pcB (n / 4294967296 % 256) + pcB (n / 1099511627776 % 256) + pcB (n / 281474976710656 % 256) + pcB (n / 72057594037927936 % 256)
theorem pc_fold {c0 c1 c2 c3 c4 c5 c6 c7 c s1 s2 s3 : Nat} (h0 : c0 ≤ 8) (h1 : c1 ≤ 8) (h2 : c2 ≤ 8) (h3 : c3 ≤ 8) (h4 : c4 ≤ 8) (h5 : c5 ≤ 8) (h6 : c6 ≤ 8) (h7 : c7 ≤ 8)
    (hc : c = c0 + 256 * (c1 + 256 * (c2 + 256 * (c3 + 256 * (c4 + 256 * (c5 + 256 * (c6 + 256 * c7))))))) (e1 : s1 = c + c / 256) (e2 : s2 = s1 + s1 / 65536) (e3 : s3 = s2 + s2 / 4294967296) : s3 % 128 = c0 + c1 + c2 + c3 + c4 + c5 + c6 + c7 ∧ s3 < 2 ^ 64 := by
  have a1 : c / 256 = c1 + 256 * (c2 + 256 * (c3 + 256 * (c4 + 256 * (c5 + 256 * (c6 + 256 * c7))))) := by omega
  have b1 : s1 = (c0 + c1) + 256 * (c1 + c2) + 65536 * ((c2 + c3) + 256 * (c3 + c4) + 65536 * ((c4 + c5) + 256 * (c5 + c6) + 65536 * ((c6 + c7) + 256 * c7))) := by omega
  have a2 : s1 / 65536 = (c2 + c3) + 256 * (c3 + c4) + 65536 * ((c4 + c5) + 256 * (c5 + c6) + 65536 * ((c6 + c7) + 256 * c7)) := by omega
  clear hc a1 e1
  have b2 : s2 = (c0 + c1 + c2 + c3) + 256 * (c1 + c2 + c3 + c4) + 65536 * ((c2 + c3 + c4 + c5) + 256 * (c3 + c4 + c5 + c6)) + 4294967296 * ((c4 + c5 + c6 + c7) + 256 * (c5 + c6 + c7) + 65536 * ((c6 + c7) + 256 * c7)) := by omega
  have a3 : s2 / 4294967296 = (c4 + c5 + c6 + c7) + 256 * (c5 + c6 + c7) + 65536 * ((c6 + c7) + 256 * c7) := by omega
  clear b1 a2 e2
  omega
/-! popcount and the count of truths -/
theorem pcB_wd (p : Nat → Bool) : ∀ b, b < 256 → (∀ j, j < 8 → b.testBit j = p j) → pcB b = fb_ct p 8 := by
  intro b hb h
  have h' : fb_ct p 8 = fb_ct (fun j => b.testBit j) 8 := fb_ct_cong fun k hk => (h k hk).symm
  rw [h']
  have : ∀ b, b < 256 → pcB b = fb_ct (fun j => b.testBit j) 8 := by decide +kernel
  exact this b hb
theorem pc64_ct (n : Nat) : pc64 n = fb_ct (fun j => n.testBit j) 64 := by
  have hb : ∀ i, pcB (n / 2 ^ (8 * i) % 256) = fb_ct (fun j => n.testBit (8 * i + j)) 8 := by
    intro i
    refine pcB_wd _ _ (Nat.mod_lt _ (by decide)) fun j hj => ?_
    rw [show (256 : Nat) = 2 ^ 8 from rfl, Nat.testBit_mod_two_pow, Nat.testBit_div_two_pow]
    simp [hj, Nat.add_comm]
  have s : ∀ i, fb_ct (fun j => n.testBit j) (8 * i + 8) = fb_ct (fun j => n.testBit j) (8 * i) + pcB (n / 2 ^ (8 * i) % 256) := by
    intro i
    rw [fb_ct_split, hb i]
  have h0 := s 0; have h1 := s 1; have h2 := s 2; have h3 := s 3; have h4 := s 4; have h5 := s 5; have h6 := s 6; have h7 := s 7
  have z : fb_ct (fun j => n.testBit j) 0 = 0 := rfl
  unfold pc64
  simp only [Nat.mul_zero, Nat.zero_add, Nat.pow_zero, Nat.div_one, z, Nat.reduceMul, Nat.reduceAdd, Nat.reducePow] at h0 h1 h2 h3 h4 h5 h6 h7
  omega
theorem pc64_wd (S : Nat → Bool) (k : Nat) : pc64 (wd S k) = fb_ct (fun j => S (64 * k + j)) 64 := by
  rw [pc64_ct]
  exact fb_ct_cong fun j hj => by rw [wd_bit]; simp [hj]
/-! the lowest truth -/
theorem bt_nI (n : Nat) {i : Nat} (hi : i < 32) : bt (nI n) i = n.testBit i := by
  show (BitVec.ofNat 32 n).getLsbD i = _
  rw [BitVec.getLsbD_ofNat]
  simp [hi]
theorem low_form {n t : Nat} (h1 : n.testBit t = true) (h2 : ∀ j, j < t → n.testBit j = false) : n = 2 ^ (t + 1) * (n / 2 ^ (t + 1)) + 2 ^ t := by
  have hm : n % 2 ^ t = 0 := by
    refine Nat.eq_of_testBit_eq fun j => ?_
    rw [Nat.testBit_mod_two_pow, Nat.zero_testBit]
    by_cases h : j < t
    · simp [h2 j h]
    · simp [h]
  have hb : n / 2 ^ t % 2 = 1 := by
    have := h1
    rw [Nat.testBit_eq_decide_div_mod_eq] at this
    simpa using this
  have e1 : n = 2 ^ t * (n / 2 ^ t) := by
    have := Nat.div_add_mod n (2 ^ t)
    omega
  have e2 : n / 2 ^ (t + 1) = n / 2 ^ t / 2 := by rw [Nat.pow_succ, Nat.div_div_eq_div_mul]
  have e3 : n / 2 ^ t = 2 * (n / 2 ^ t / 2) + 1 := by omega
  rw [e2]
  conv => lhs; rw [e1, e3]
  rw [Nat.mul_add, Nat.mul_one, ← Nat.mul_assoc, Nat.pow_succ]
theorem ntz1_low {n t : Nat} (hn : n < 2 ^ 32) (ht : t < 32) (h1 : n.testBit t = true) (h2 : ∀ j, j < t → n.testBit j = false) : ntz1 (nI n) = nI (2 ^ t - 1) := by
  have hf := low_form h1 h2
  generalize n / 2 ^ (t + 1) = m at hf
  have hp : 2 ^ t < 2 ^ (t + 1) := Nat.pow_lt_pow_right (by decide) (Nat.lt_succ_self t)
  have h0 : 0 < 2 ^ t := Nat.two_pow_pos t
  unfold ntz1
  rw [pk_sub (by omega)]
  refine b_ext fun i hi => ?_
  rw [b_and, b_xor, b_m1 i hi, bt_nI n hi, bt_nI _ hi, bt_nI _ hi]
  have e1 : (n - 1).testBit i = if i < t + 1 then decide (i < t) else m.testBit (i - (t + 1)) := by
    have : n - 1 = 2 ^ (t + 1) * m + (2 ^ t - 1) := by omega
    rw [this, Nat.testBit_two_pow_mul_add m (by omega)]
    by_cases h : i < t + 1
    · rw [if_pos h, if_pos h, Nat.testBit_two_pow_sub_one]
    · rw [if_neg h, if_neg h]
  have e2 : n.testBit i = if i < t + 1 then decide (i = t) else m.testBit (i - (t + 1)) := by
    rw [hf, Nat.testBit_two_pow_mul_add m hp]
    by_cases h : i < t + 1
    · rw [if_pos h, if_pos h, Nat.testBit_two_pow]
      simp only [eq_comm]
    · rw [if_neg h, if_neg h]
  rw [e1, e2, Nat.testBit_two_pow_sub_one]
  by_cases h : i < t + 1
  · rw [if_pos h, if_pos h]
    by_cases h3 : i < t
    · simp [h3, show ¬ i = t by omega]
    · simp [h3]
  · rw [if_neg h, if_neg h]
    simp [show ¬ i < t by omega]
theorem ntz_tab : ∀ t, t < 32 → (if nI (2 ^ t - 1) ≤ 0 then nI (2 ^ t - 1) &&& nI 32 else ntzE (ntzS (nI 4) (nI 2) (ntzS (nI 16) (nI 4) (ntzS (nI 256) (nI 8) (ntzS 65536 (nI 16) (nI 1, nI (2 ^ t - 1))))))) = nI t := by decide +kernel
theorem ntz32 {n t : Nat} (hn : n < 2 ^ 32) (ht : t < 32) (h1 : n.testBit t = true) (h2 : ∀ j, j < t → n.testBit j = false) : ntzI (nI n) = nI t := by
  have h := ntz_tab t ht
  unfold ntzI
  rw [ntz1_low hn ht h1 h2]
  exact h
/-- of a long word: its lowest truth -/
theorem low_ex {n : Nat} (h0 : n ≠ 0) (hn : n < 2 ^ 64) : ∃ t, t < 64 ∧ n.testBit t = true ∧ ∀ j, j < t → n.testBit j = false := by
  have : ∃ i, i < 64 ∧ n.testBit i = true := by
    refine Classical.byContradiction fun hc => h0 (Nat.eq_of_testBit_eq fun j => ?_)
    rw [Nat.zero_testBit]
    by_cases hj : j < 64
    · exact Bool.eq_false_iff.mpr fun h => hc ⟨j, hj, h⟩
    · exact Nat.testBit_lt_two_pow (Nat.lt_of_lt_of_le hn (Nat.pow_le_pow_right (by decide) (by omega)))
  obtain ⟨i, a, b, c⟩ := fb_first (p := fun i => n.testBit i = true) this
  exact ⟨i, a, b, fun j hj => Bool.eq_false_iff.mpr (c j hj)⟩
