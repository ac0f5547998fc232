set_option maxRecDepth 100000
/-! ===== entering an epoch ===== -/
/-- what the secrets' room has come to -/
def PhS (ss : List Sec) : Nat := Hc ss + capF ss.length
theorem Ph_frm (ss : List Sec) (k : Ky) : PhS ss ≤ PhS (frm ss k).1 ∧ Hc (frm ss k).1 ≤ Hc ss + (PhS (frm ss k).1 - PhS ss) ∧ capF (frm ss k).1.length ≤ capF ss.length + (PhS (frm ss k).1 - PhS ss) := by
  obtain ⟨h1, -, h2⟩ := @frm_le ss k
  have h3 := capF_m h1
  unfold PhS
  omega
theorem Ph_fr {ss s2 : List Sec} {k : Ky} {i : Nat} (h : frm ss k = (s2, i)) : PhS ss ≤ PhS s2 ∧ ss.length ≤ s2.length ∧ s2.length ≤ ss.length + 1 ∧ i < s2.length := by
  have h1 := (Ph_frm ss k).1
  have h2 := @frm_le ss k
  have h3 := @frm_lt ss k
  rw [h] at h1 h2 h3
  exact ⟨h1, h2.1, h2.2.1, h3⟩
theorem Ph_d (ss : List Sec) (z : Int32) : PhS ss ≤ PhS (ss ++ [drw z]) ∧ capF (ss.length + 1) - capF ss.length ≤ PhS (ss ++ [drw z]) - PhS ss := by
  unfold PhS
  rw [(Hc_dr ss (sKy_drw z)).1, List.length_append]
  have := capF_mo ss.length
  show _ ≤ Hc ss + capF (ss.length + 1) ∧ _
  refine ⟨by omega, ?_⟩
  show _ ≤ Hc ss + capF (ss.length + 1) - _
  omega
def drpF (T : TrS) (F : Nat → Option Nat) (q : Nat) : Option Nat := if q < 2 * 2 ^ T.1 - 1 ∧ T.2.1 q = F q then F q else none
/-- the chains of an epoch, of its first leaves -/
def chS (T : TrS) (sec : Nat) (ss : List Sec) : Nat → List Sec × (Nat → Option ChS)
  | 0 => (ss, fun _ => none)
  | k + 1 => if T.2.2.2 k = none then chS T sec ss k else ((frm (chS T sec ss k).1 (sec, none, 100 + k)).1, fup (chS T sec ss k).2 k (some ((frm (chS T sec ss k).1 (sec, none, 100 + k)).2, 0, fun _ => none)))
theorem chS_mo (T : TrS) (sec : Nat) (ss : List Sec) (k : Nat) : PhS (chS T sec ss k).1 ≤ PhS (chS T sec ss (k + 1)).1 ∧ (chS T sec ss k).1.length ≤ (chS T sec ss (k + 1)).1.length ∧ (chS T sec ss (k + 1)).1.length ≤ (chS T sec ss k).1.length + 1 := by
  rw [chS]
  split
  · exact ⟨Nat.le_refl _, Nat.le_refl _, by omega⟩
  · have h1 := (Ph_frm (chS T sec ss k).1 (sec, none, 100 + k)).1
    have h2 := @frm_le (chS T sec ss k).1 (sec, none, 100 + k)
    exact ⟨h1, h2.1, h2.2.1⟩
theorem chS_m (T : TrS) (sec : Nat) (ss : List Sec) {k m : Nat} (h : k ≤ m) : PhS (chS T sec ss k).1 ≤ PhS (chS T sec ss m).1 ∧ (chS T sec ss k).1.length ≤ (chS T sec ss m).1.length := by
  induction m with
  | zero => rw [Nat.le_zero.mp h]; exact ⟨Nat.le_refl _, Nat.le_refl _⟩
  | succ m ih =>
    rcases Nat.lt_or_ge m k with z | z
    · rw [show k = m + 1 by omega]; exact ⟨Nat.le_refl _, Nat.le_refl _⟩
    · have h1 := ih z
      have h2 := chS_mo T sec ss m
      omega
/-- what is kept of a map's things: one goes -/
theorem BgM.del {α : Type} {E : Nat → α → va_W → Prop} {F : Nat → Option α} {f : Nat → Option Nat} {w2 : va_W} (h : BgM E f F w2) (ho : ∀ k, 128 ≤ k → f k = none ∧ F k = none) (k : Nat) : ∃ w3 R, w2.Perm (w3 ++ R) ∧ BgM E (fup f k none) (fup F k none) w3 ∧ ∀ q, 128 ≤ q → fup f k none q = none ∧ fup F k none q = none := by
  have hoq : ∀ q, 128 ≤ q → fup f k none q = none ∧ fup F k none q = none := by
    intro q hq
    unfold fup
    split
    · exact ⟨rfl, rfl⟩
    · exact ho q hq
  rcases Nat.lt_or_ge k 128 with hk | hk
  · obtain ⟨u1, wi, u2, hi, hcl, rfl⟩ := Big.opn h hk
    refine ⟨([u1, [], u2] : List va_W).flatten, wi, perm_cnt fun ct h h0 => by simp only [List.flatten_cons, List.flatten_nil, h, h0]; omega, hcl _ [] (fun j hj hne v hv => ?_) (Or.inl ⟨fup_s _ _ _, fup_s _ _ _, rfl⟩), hoq⟩
    unfold MoE; rw [fup_n hne, fup_n hne]; exact hv
  · refine ⟨w2, [], by rw [List.append_nil], ?_, hoq⟩
    rw [fup_idt (ho k hk).1, fup_idt (ho k hk).2]
    exact h
