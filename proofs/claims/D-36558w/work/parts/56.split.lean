set_option maxRecDepth 100000
/-- a hash code as a number without sign -/
def hU (h : Int32) : Nat := h.toBitVec.toNat
theorem nI_bv (n : Nat) : (nI n).toBitVec.toNat = n % 4294967296 := by
  show (BitVec.ofNat 32 n).toNat = _
  rw [BitVec.toNat_ofNat]
theorem i32_ext {a b : Int32} (h : a.toBitVec.toNat = b.toBitVec.toNat) : a = b := Int32.toBitVec_inj.mp (BitVec.eq_of_toNat_eq h)
theorem pw_lt {k : Nat} (hk : k ≤ 30) : 2 ^ k ≤ 1073741824 := Nat.le_trans (Nat.pow_le_pow_right (by decide) hk) (Nat.le_of_ble_eq_true rfl)
theorem pw_0 (k : Nat) : 0 < 2 ^ k := Nat.pos_of_ne_zero (by simp)
theorem ix_and {k : Nat} (hk : k ≤ 30) (h : Int32) : nI (2 ^ k - 1) &&& h = nI (hU h % 2 ^ k) := by
  have h1 := pw_lt hk
  have h2 := pw_0 k
  have h3 := Nat.mod_lt (hU h) h2
  have e : (nI (2 ^ k - 1) &&& h).toBitVec.toNat = hU h % 2 ^ k := by
    rw [Int32.toBitVec_and, BitVec.toNat_and, nI_bv, Nat.mod_eq_of_lt (by omega), Nat.and_comm, Nat.and_two_pow_sub_one_eq_mod]; rfl
  apply i32_ext
  rw [e, nI_bv]
  exact (Nat.mod_eq_of_lt (by omega)).symm
theorem bit_and {k : Nat} (hk : k ≤ 30) (h : Int32) : h &&& nI (2 ^ k) = 0 ↔ (hU h).testBit k = false := by
  have h1 := pw_lt hk
  have e : (h &&& nI (2 ^ k)).toBitVec.toNat = hU h &&& 2 ^ k := by
    rw [Int32.toBitVec_and, BitVec.toNat_and, nI_bv, Nat.mod_eq_of_lt (by omega)]; rfl
  constructor
  · intro z
    rw [z] at e
    have e0 : (0 : Int32).toBitVec.toNat = 0 := rfl
    rw [e0] at e
    have e1 : (hU h &&& 2 ^ k).testBit k = false := by rw [← e]; simp
    rw [Nat.testBit_and, Nat.testBit_two_pow] at e1
    simpa using e1
  · intro z
    apply i32_ext
    rw [e]
    show _ = 0
    apply Nat.eq_of_testBit_eq
    intro i
    rw [Nat.testBit_and, Nat.testBit_two_pow]
    by_cases hi : k = i
    · rw [← hi, z]; simp
    · simp [hi]
theorem bit_mod {k x : Nat} : x % 2 ^ (k + 1) = x % 2 ^ k + 2 ^ k * (x / 2 ^ k % 2) := by rw [Nat.pow_succ, Nat.mod_mul]
theorem bit_t {k x : Nat} : x.testBit k = decide (x / 2 ^ k % 2 = 1) := Nat.testBit_eq_decide_div_mod_eq
/-- the test of a bit -/
def lob (bit : Nat) (h : Int32) : Bool := decide (h &&& nI bit = 0)
theorem lob_t {k : Nat} (hk : k ≤ 30) {h : Int32} (hl : lob (2 ^ k) h = true) : hU h % 2 ^ (k + 1) = hU h % 2 ^ k := by
  have z := (bit_and hk h).mp (by simpa [lob] using hl)
  rw [bit_t] at z
  have : hU h / 2 ^ k % 2 = 0 := by have := of_decide_eq_false z; omega
  rw [bit_mod, this]; simp
theorem lob_f {k : Nat} (hk : k ≤ 30) {h : Int32} (hl : lob (2 ^ k) h = false) : hU h % 2 ^ (k + 1) = hU h % 2 ^ k + 2 ^ k := by
  have z : (hU h).testBit k = true := by
    cases hb : (hU h).testBit k with
    | true => rfl
    | false => have := (bit_and hk h).mpr hb; simp [lob, this] at hl
  rw [bit_t] at z
  have : hU h / 2 ^ k % 2 = 1 := of_decide_eq_true z
  rw [bit_mod, this]; simp
/-- a bin of the table: a list, or a tree; ts: hash codes, keys, values -/
def BinP (g : Gv) (bm : Nat) (o : Option Nat) (ts : List (Int32 × Nat × Nat)) (w : va_W) : Prop :=
  (∃ (ns cs : List Nat) (hs : Nat → Int32) (ky vl : Nat → Nat) (nx : Nat → Option Nat), NodG g ns hs ky vl nx w ∧ Ch nx o cs ∧ cs.Nodup ∧ (∀ a, a ∈ cs ↔ a ∈ ns) ∧ ts.Perm (cs.map fun a => (hs a, ky a, vl a)) ∧ cs.length ≤ bm) ∨
  ∃ (ns cs : List Nat) (hs : Nat → Int32) (ky vl : Nat → Nat) (nx pp lf rg pv : Nat → Option Nat) (rd : Nat → Bool) (lo hi : Nat → Nat) (root : Nat), TNG g ns hs ky vl nx pp lf rg pv rd w ∧ Ch nx o cs ∧ cs.Nodup ∧ (∀ a, a ∈ cs ↔ a ∈ ns) ∧ ts.Perm (cs.map fun a => (hs a, ky a, vl a)) ∧ Pc pv none cs ∧ Tr ns (fun a => hrk (hs a)) lf rg pp lo hi (some root) 4294967296 ∧ 10 ≤ bm
theorem BinP.nil {g : Gv} {bm : Nat} : BinP g bm none [] ([] : List va_W).flatten := Or.inl ⟨[], [], fun _ => 0, fun _ => 0, fun _ => 0, fun _ => none, NodG.nil, rfl, List.nodup_nil, fun _ => Iff.rfl, List.Perm.refl _, Nat.zero_le _⟩
theorem BinP.perm {g : Gv} {bm : Nat} {o : Option Nat} {ts ts2 : List (Int32 × Nat × Nat)} {w : va_W} (h : BinP g bm o ts w) (hp : ts2.Perm ts) : BinP g bm o ts2 w := by
  rcases h with ⟨ns, cs, hs, ky, vl, nx, h1, h2, h3, h4, h5, h6⟩ | ⟨ns, cs, hs, ky, vl, nx, pp, lf, rg, pv, rd, lo, hi, root, h1, h2, h3, h4, h5, h6⟩
  · exact Or.inl ⟨ns, cs, hs, ky, vl, nx, h1, h2, h3, h4, hp.trans h5, h6⟩
  · exact Or.inr ⟨ns, cs, hs, ky, vl, nx, pp, lf, rg, pv, rd, lo, hi, root, h1, h2, h3, h4, hp.trans h5, h6⟩
theorem TNG.part {g : Gv} {ns : List Nat} {hs : Nat → Int32} {ky vl : Nat → Nat} {nx pp lf rg pv : Nat → Option Nat} {rd : Nat → Bool} {w : va_W} (h : TNG g ns hs ky vl nx pp lf rg pv rd w) (p : Nat → Bool) : ∃ w1 w2, w.Perm (w1 ++ w2) ∧ TNG g (ns.filter p) hs ky vl nx pp lf rg pv rd w1 ∧ TNG g (ns.filter fun a => !p a) hs ky vl nx pp lf rg pv rd w2 := by
  refine ⟨_, _, ?_, ⟨h.1.filter p, rfl⟩, ⟨h.1.filter _, rfl⟩⟩
  rw [h.2, ← List.map_append]
  exact ((List.filter_append_perm p ns).symm).map _
theorem pc_snoc {pv : Nat → Option Nat} : ∀ {ds : List Nat} {o : Option Nat} {x : Nat} {l : Option Nat}, Pc pv o ds → x ∉ ds → (∀ t, ds.getLast? = some t → l = some t) → (ds = [] → l = o) → Pc (fup pv x l) o (ds ++ [x])
  | [], o, x, l, _, _, _, h2 => ⟨by rw [fup_s]; exact h2 rfl, trivial⟩
  | [a], o, x, l, h, hx, h1, _ => by
    have hax : a ≠ x := fun e => hx (by simp [e])
    exact ⟨by rw [fup_n hax]; exact h.1, by rw [fup_s]; exact h1 a rfl, trivial⟩
  | a :: b :: t, o, x, l, h, hx, h1, _ => by
    have hax : a ≠ x := fun e => hx (by simp [e])
    refine ⟨by rw [fup_n hax]; exact h.1, ?_⟩
    exact pc_snoc (ds := b :: t) h.2 (fun e => hx (List.mem_cons_of_mem _ e)) (fun t' ht => h1 t' (by simpa using ht)) (fun e => by cases e)
theorem up_up {f : Nat → Option Nat} {b : Nat} {x y : Option Nat} : va_up (va_up f b x) b y = va_up f b y := by
  funext i; unfold va_up; split <;> rfl
theorem moJ40_treeify : Mo yJ40_treeify 1 := by
  refine ⟨by decide, by decide, by decide +kernel⟩
theorem moJ40_untreeify : Mo yJ40_untreeify 1 := by
  refine ⟨by decide, by decide, by decide +kernel⟩
theorem ct_J40_split (g : Gv) (J : Jd g) {h : Nat} {otl : Option Nat} {n : Nat} {md : Nat} {thr : Nat} {lfac : UInt32} {tl : Nat} {tab : Nat → Option Nat} {ix : Nat} {bit : Nat} {kk : Nat} {cs : List Nat} {a : Nat} {bm : Nat} {ns : List Nat} {hs : Nat → Int32} {ky : Nat → Nat} {vl : Nat → Nat} {nx : Nat → Option Nat} {pp : Nat → Option Nat} {lf : Nat → Option Nat} {rg : Nat → Option Nat} {pv : Nat → Option Nat} {rd : Nat → Bool} {lo : Nat → Nat} {hi : Nat → Nat} {root : Nat} {w2 : va_W} (hw2 : TNG g ns hs ky vl nx pp lf rg pv rd w2) (hb10 : 10 ≤ bm) (hbit : bit = 2 ^ kk) (hkk : kk ≤ 28) (hix2 : ix < bit) (hta : tab ix = none) (htb : tab (ix + bit) = none) (hC : Ch nx (some a) cs) (hP : Pc pv none cs) (hN : cs.Nodup) (hM : ∀ b, b ∈ cs ↔ b ∈ ns) (hlen : cs.length < 100000) (hT : Tr ns (fun a => hrk (hs a)) lf rg pp lo hi (some root) 4294967296) (hij : ∀ b ∈ ns, ∀ c ∈ ns, hs b = hs c → b = c) (hixs : ∀ b ∈ ns, hU (hs b) % bit = ix) : Ct g yJ40_split (ws_ yJ40_split cJ40_split 14 none) 5 12 48 [.ref a, .ref h, .ref tl, .int (nI ix), .int (nI bit)] [[(h, .inr (23, [.null, .null, va_rf otl, .null, .int (nI n), .int (nI md), .int (nI thr), .float lfac]))], [(tl, .inl (g.2.1 6, 2 * bit, .inr (.inr (.inr (.inr tab)))))], w2] (fun (rv_ : Option Value) (rL_ : List va_W) => ∃ (o1 : Option Nat) (o2 : Option Nat) (u2 : va_W) (u3 : va_W), rv_ = none ∧ rL_ = [[(h, .inr (23, [.null, .null, va_rf otl, .null, .int (nI n), .int (nI md), .int (nI thr), .float lfac]))], [(tl, .inl (g.2.1 6, 2 * bit, .inr (.inr (.inr (.inr (va_up (va_up tab ix o1) (ix + bit) o2))))))], u2, u3] ∧ BinP g bm o1 ((cs.filter (fun a => lob bit (hs a))).map (fun a => (hs a, ky a, vl a))) u2 ∧ BinP g bm o2 ((cs.filter (fun a => !lob bit (hs a))).map (fun a => (hs a, ky a, vl a))) u3) noX := by
  refine Ct.of "java/util/HashMap$TreeNode" [some (.ref a), some (.ref h), some (.ref tl), some (.int (nI ix)), some (.int (nI bit)), none, none, none, none, none, none, none, none, none] rfl (by decide) rfl (Nat.le_of_ble_eq_true rfl) rfl ?_
  intro κ B E tb
  refine g_aload_n (q := 1) B dJ40_split_0 rfl rfl (rv_r _) ?_
  refine g_astore (q := 3) (lv2 := [some (.ref a), some (.ref h), some (.ref tl), some (.int (nI ix)), some (.int (nI bit)), some (.ref a), none, none, none, none, none, none, none, none]) B dJ40_split_1 rfl (Nat.le_of_ble_eq_true rfl) (rv_r _) rfl ?_
  refine g_aconst_null (q := 4) B dJ40_split_3 rfl ?_
  refine g_astore (q := 6) (lv2 := [some (.ref a), some (.ref h), some (.ref tl), some (.int (nI ix)), some (.int (nI bit)), some (.ref a), some (.null), none, none, none, none, none, none, none]) B dJ40_split_4 rfl (Nat.le_of_ble_eq_true rfl) rv_n rfl ?_
  refine g_aconst_null (q := 7) B dJ40_split_6 rfl ?_
  refine g_astore (q := 9) (lv2 := [some (.ref a), some (.ref h), some (.ref tl), some (.int (nI ix)), some (.int (nI bit)), some (.ref a), some (.null), some (.null), none, none, none, none, none, none]) B dJ40_split_7 rfl (Nat.le_of_ble_eq_true rfl) rv_n rfl ?_
  refine g_aconst_null (q := 10) B dJ40_split_9 rfl ?_
  refine g_astore (q := 12) (lv2 := [some (.ref a), some (.ref h), some (.ref tl), some (.int (nI ix)), some (.int (nI bit)), some (.ref a), some (.null), some (.null), some (.null), none, none, none, none, none]) B dJ40_split_10 rfl (Nat.le_of_ble_eq_true rfl) rv_n rfl ?_
  refine g_aconst_null (q := 13) B dJ40_split_12 rfl ?_
  refine g_astore (q := 15) (lv2 := [some (.ref a), some (.ref h), some (.ref tl), some (.int (nI ix)), some (.int (nI bit)), some (.ref a), some (.null), some (.null), some (.null), some (.null), none, none, none, none]) B dJ40_split_13 rfl (Nat.le_of_ble_eq_true rfl) rv_n rfl ?_
  refine g_iconst (v := nI 0) (q := 16) B dJ40_split_15 rfl (by decide) ?_
  refine g_istore (q := 18) (lv2 := [some (.ref a), some (.ref h), some (.ref tl), some (.int (nI ix)), some (.int (nI bit)), some (.ref a), some (.null), some (.null), some (.null), some (.null), some (.int (nI 0)), none, none, none]) B dJ40_split_16 rfl (Nat.le_of_ble_eq_true rfl) rfl ?_
  refine g_iconst (v := nI 0) (q := 19) B dJ40_split_18 rfl (by decide) ?_
  refine g_istore (q := 21) (lv2 := [some (.ref a), some (.ref h), some (.ref tl), some (.int (nI ix)), some (.int (nI bit)), some (.ref a), some (.null), some (.null), some (.null), some (.null), some (.int (nI 0)), some (.int (nI 0)), none, none]) B dJ40_split_19 rfl (Nat.le_of_ble_eq_true rfl) rfl ?_
  refine g_aload (q := 23) B dJ40_split_21 rfl rfl (rv_r _) ?_
  refine g_astore (q := 25) (lv2 := [some (.ref a), some (.ref h), some (.ref tl), some (.int (nI ix)), some (.int (nI bit)), some (.ref a), some (.null), some (.null), some (.null), some (.null), some (.int (nI 0)), some (.int (nI 0)), some (.ref a), none]) B dJ40_split_23 rfl (Nat.le_of_ble_eq_true rfl) (rv_r _) rfl ?_
  have lp25 : ∀ (n25 : Nat) (us : List Nat) (vs : List Nat) (los : List Nat) (his : List Nat) (y : Option Nat) (nx : Nat → Option Nat) (pv : Nat → Option Nat) (lh : Option Nat) (lt : Option Nat) (ch : Option Nat) (ct : Option Nat) (l25_2 : va_W), TNG g ns hs ky vl nx pp lf rg pv rd l25_2 → (cs = us ++ vs) → (los = us.filter (fun a => lob bit (hs a))) → (his = us.filter (fun a => !lob bit (hs a))) → (Ch nx y vs) → (Ch nx lh los) → (Ch nx ch his) → (Pc pv none los) → (Pc pv none his) → (los.getLast? = lt) → (his.getLast? = ct) → vs.length = n25 → Go g κ 25 [some (.ref a), some (.ref h), some (.ref tl), some (.int (nI ix)), some (.int (nI bit)), some (.ref a), some (va_rf lh), some (va_rf lt), some (va_rf ch), some (va_rf ct), some (.int (nI los.length)), some (.int (nI his.length)), some (va_rf y), none] [] [[(h, .inr (23, [.null, .null, va_rf otl, .null, .int (nI n), .int (nI md), .int (nI thr), .float lfac]))], [(tl, .inl (g.2.1 6, 2 * bit, .inr (.inr (.inr (.inr tab)))))], l25_2] 12 48 := by
    intro n25
    induction n25 using Nat.strongRecOn with
    | _ n25 ih25 =>
    intro us vs los his y nx pv lh lt ch ct l25_2 hl25_2 hcs hlos hhis hV hL hH hPL hPH hlt hct hmu25
    refine g_aload (q := 27) B dJ40_split_25 rfl rfl (rv_o _) ?_
    refine g_ifnull_o (tgt := 131) (q := 30) B dJ40_split_27 rfl (by decide) (fun c27 => ?_) (fun y_a27 c27 => ?_)
    · skip
      subst c27
      have hve : vs = [] := by
        cases vs with
        | nil => rfl
        | cons z t => obtain ⟨e, -⟩ := hV; cases e
      subst hve
      rw [List.append_nil] at hcs
      subst hcs
      subst hlos hhis
      have hlc : (cs.filter (fun a => lob bit (hs a))).length ≤ cs.length ∧ (cs.filter (fun a => !lob bit (hs a))).length ≤ cs.length := ⟨List.length_filter_le _ _, List.length_filter_le _ _⟩
      obtain ⟨wl, wh, hpt, hwl, hwh⟩ := TNG.part hl25_2 (fun a => lob bit (hs a))
      refine g_spl 2 rfl hpt rfl ?_
      refine (show Go g κ 131 [some (.ref a), some (.ref h), some (.ref tl), some (.int (nI ix)), some (.int (nI bit)), some (.ref a), some (va_rf lh), some (va_rf lt), some (va_rf ch), some (va_rf ct), some (.int (nI ((cs.filter (fun a => lob bit (hs a))).length))), some (.int (nI ((cs.filter (fun a => !lob bit (hs a))).length))), some (.null), none] [] [[(h, .inr (23, [.null, .null, va_rf otl, .null, .int (nI n), .int (nI md), .int (nI thr), .float lfac]))], [(tl, .inl (g.2.1 6, 2 * bit, .inr (.inr (.inr (.inr tab)))))], wl, wh] 12 48 from ?_)
      have hlM : ∀ b, b ∈ cs.filter (fun a => lob bit (hs a)) ↔ b ∈ ns.filter (fun a => lob bit (hs a)) := fun b => by rw [List.mem_filter, List.mem_filter, hM b]
      have hhM : ∀ b, b ∈ cs.filter (fun a => !lob bit (hs a)) ↔ b ∈ ns.filter (fun a => !lob bit (hs a)) := fun b => by rw [List.mem_filter, List.mem_filter, hM b]
      have hlx : ∀ b ∈ ns.filter (fun a => lob bit (hs a)), nI (2 * bit - 1) &&& hs b = nI ix := fun b hb => by
        have z := List.mem_filter.mp hb
        have z2 := lob_t (k := kk) (h := hs b) (by omega) (by rw [← hbit]; exact z.2)
        rw [hbit, show 2 * 2 ^ kk = 2 ^ (kk + 1) by rw [Nat.pow_succ]; omega, ix_and (by omega), z2, ← hbit, hixs b z.1]
      have hhx : ∀ b ∈ ns.filter (fun a => !lob bit (hs a)), nI (2 * bit - 1) &&& hs b = nI (ix + bit) := fun b hb => by
        have z := List.mem_filter.mp hb
        have z2 := lob_f (k := kk) (h := hs b) (by omega) (by rw [← hbit]; simpa using z.2)
        rw [hbit, show 2 * 2 ^ kk = 2 ^ (kk + 1) by rw [Nat.pow_succ]; omega, ix_and (by omega), z2, ← hbit, hixs b z.1]
      have hb0 : 0 < bit := by rw [hbit]; exact Nat.pos_of_ne_zero (by simp)
      have hb1 : bit ≤ 268435456 := by rw [hbit]; exact Nat.le_trans (Nat.pow_le_pow_right (by decide) hkk) (Nat.le_of_ble_eq_true rfl)
      have ct171 : ∀ (o1 : Option Nat) (l171_2 : va_W), BinP g bm o1 ((cs.filter (fun a => lob bit (hs a))).map (fun a => (hs a, ky a, vl a))) l171_2 → Go g κ 171 [some (.ref a), some (.ref h), some (.ref tl), some (.int (nI ix)), some (.int (nI bit)), some (.ref a), some (va_rf lh), some (va_rf lt), some (va_rf ch), some (va_rf ct), some (.int (nI ((cs.filter (fun a => lob bit (hs a))).length))), some (.int (nI ((cs.filter (fun a => !lob bit (hs a))).length))), some (.null), none] [] [[(h, .inr (23, [.null, .null, va_rf otl, .null, .int (nI n), .int (nI md), .int (nI thr), .float lfac]))], [(tl, .inl (g.2.1 6, 2 * bit, .inr (.inr (.inr (.inr (va_up tab ix o1))))))], l171_2, wh] 6 24 := by
        intro o1 l171_2 hl171_2
        refine g_aload (q := 173) B dJ40_split_171 rfl rfl (rv_o _) ?_
        refine g_ifnull_o (tgt := 217) (q := 176) B dJ40_split_173 rfl (by decide) (fun c173 => ?_) (fun ch_a173 c173 => ?_)
        · skip
          subst c173
          have hem : (cs.filter (fun a => !lob bit (hs a))) = [] := by
            have z := ch_head hH
            exact List.head?_eq_none_iff.mp z.symm
          refine g_pk [0, 0, 0] rfl rfl ?_
          refine (show Go g κ 217 [some (.ref a), some (.ref h), some (.ref tl), some (.int (nI ix)), some (.int (nI bit)), some (.ref a), some (va_rf lh), some (va_rf lt), some (.null), some (va_rf ct), some (.int (nI ((cs.filter (fun a => lob bit (hs a))).length))), some (.int (nI ((cs.filter (fun a => !lob bit (hs a))).length))), some (.null), none] [] [[(h, .inr (23, [.null, .null, va_rf otl, .null, .int (nI n), .int (nI md), .int (nI thr), .float lfac]))], [(tl, .inl (g.2.1 6, 2 * bit, .inr (.inr (.inr (.inr (va_up tab ix o1))))))], l171_2] 6 24 from ?_)
          obtain ⟨wc_1, ewc_1⟩ : ∃ w : va_W, w = ([] : List va_W).flatten := ⟨_, rfl⟩
          have hwc_1 : BinP g bm none ((cs.filter (fun a => !lob bit (hs a))).map (fun a => (hs a, ky a, vl a))) wc_1 := by
            rw [ewc_1]
            exact by rw [hem]; exact BinP.nil
          refine g_close (w := wc_1) [] rfl ewc_1 rfl ?_
          refine (show Go g κ 217 [some (.ref a), some (.ref h), some (.ref tl), some (.int (nI ix)), some (.int (nI bit)), some (.ref a), some (va_rf lh), some (va_rf lt), some (.null), some (va_rf ct), some (.int (nI ((cs.filter (fun a => lob bit (hs a))).length))), some (.int (nI ((cs.filter (fun a => !lob bit (hs a))).length))), some (.null), none] [] [[(h, .inr (23, [.null, .null, va_rf otl, .null, .int (nI n), .int (nI md), .int (nI thr), .float lfac]))], [(tl, .inl (g.2.1 6, 2 * bit, .inr (.inr (.inr (.inr (va_up tab ix o1))))))], l171_2, wc_1] 6 24 from ?_)
          rw [show va_up tab ix o1 = va_up (va_up tab ix o1) (ix + bit) none from (up_same (by show (if ix + bit = ix then o1 else tab (ix + bit)) = none; rw [if_neg (by omega)]; exact htb)).symm]
          refine (show Go g κ 217 [some (.ref a), some (.ref h), some (.ref tl), some (.int (nI ix)), some (.int (nI bit)), some (.ref a), some (va_rf lh), some (va_rf lt), some (.null), some (va_rf ct), some (.int (nI ((cs.filter (fun a => lob bit (hs a))).length))), some (.int (nI ((cs.filter (fun a => !lob bit (hs a))).length))), some (.null), none] [] [[(h, .inr (23, [.null, .null, va_rf otl, .null, .int (nI n), .int (nI md), .int (nI thr), .float lfac]))], [(tl, .inl (g.2.1 6, 2 * bit, .inr (.inr (.inr (.inr (va_up (va_up tab ix o1) (ix + bit) none))))))], l171_2, wc_1] 6 24 from ?_)
          exact g_vret B E dJ40_split_217 (⟨_, _, _, _, rfl, rfl, hl171_2, hwc_1⟩)
        · skip
          subst c173
          have hhdH := (hhM ch_a173).mp (List.mem_of_mem_head? (by rw [← ch_head hH]; rfl))
          refine g_iload (q := 178) B dJ40_split_176 rfl rfl ?_
          refine g_bipush (v := nI 6) (q := 180) B dJ40_split_178 rfl (by decide) ?_
          refine g_icmp_gt (tgt := 198) (q := 183) B dJ40_split_180 rfl (by decide) (nI_ltI (by omega) (by omega)) (fun c180 => ?_) (fun c180 => ?_)
          · skip
            refine g_aload_n (q := 199) B dJ40_split_198 rfl rfl (rv_r _) ?_
            refine g_iload_n (q := 200) B dJ40_split_199 rfl rfl ?_
            refine g_iload (q := 202) B dJ40_split_200 rfl rfl ?_
            refine g_iadd (v := nI (ix + bit)) (q := 203) B dJ40_split_202 rfl (nI_add _ _) ?_
            refine g_aload (q := 205) B dJ40_split_203 rfl rfl (rv_r _) ?_
            refine g_astO (q := 206) (L2 := [[(h, .inr (23, [.null, .null, va_rf otl, .null, .int (nI n), .int (nI md), .int (nI thr), .float lfac]))], [(tl, .inl (g.2.1 6, 2 * bit, .inr (.inr (.inr (.inr (va_up (va_up tab ix o1) (ix + bit) (some ch_a173)))))))], l171_2, wh]) B (k := 1) (t := 6) (C := "java/util/HashMap$TreeNode") (rc_in B (ci := 25) rfl (k := 3) rfl ⟨_, TNG.mem hwh hhdH⟩) (as_c q3727) dJ40_split_205 rfl rfl rfl (vp_in_nI (by omega) (by omega)) (by rw [nI_clamp (by omega)] <;> rfl) ?_
            refine g_aload (q := 208) B dJ40_split_206 rfl rfl (rv_o _) ?_
            refine g_ifnull_o (tgt := 217) (q := 211) B dJ40_split_208 rfl (by decide) (fun c208 => ?_) (fun lh_a208 c208 => ?_)
            · skip
              subst c208
              have hemo : (cs.filter (fun a => lob bit (hs a))) = [] := by
                have z := ch_head hL
                exact List.head?_eq_none_iff.mp z.symm
              have hall : ∀ b ∈ ns, lob bit (hs b) = false := fun b hb => by
                cases e : lob bit (hs b) with
                | false => rfl
                | true =>
                  have : b ∈ (cs.filter (fun a => lob bit (hs a))) := List.mem_filter.mpr ⟨(hM b).mpr hb, by simp [e]⟩
                  rw [hemo] at this; simp at this
              have hnf : ns.filter (fun a => !lob bit (hs a)) = ns := List.filter_eq_self.mpr fun b hb => by simp [hall b hb]
              obtain ⟨wc_2, ewc_2⟩ : ∃ w : va_W, w = ([wh] : List va_W).flatten := ⟨_, rfl⟩
              have hwc_2 : BinP g bm (some ch_a173) ((cs.filter (fun a => !lob bit (hs a))).map (fun a => (hs a, ky a, vl a))) wc_2 := by
                rw [ewc_2]
                exact Or.inr ⟨ns.filter (fun a => !lob bit (hs a)), (cs.filter (fun a => !lob bit (hs a))), hs, ky, vl, _, pp, lf, rg, _, rd, lo, hi, root, (by simpa using hwh), hH, hN.filter _, hhM, List.Perm.refl _, hPH, by rw [hnf]; exact hT, hb10⟩
              refine g_close (w := wc_2) [3] rfl ewc_2 rfl ?_
              refine (show Go g κ 217 [some (.ref a), some (.ref h), some (.ref tl), some (.int (nI ix)), some (.int (nI bit)), some (.ref a), some (.null), some (va_rf lt), some (.ref ch_a173), some (va_rf ct), some (.int (nI ((cs.filter (fun a => lob bit (hs a))).length))), some (.int (nI ((cs.filter (fun a => !lob bit (hs a))).length))), some (.null), none] [] [[(h, .inr (23, [.null, .null, va_rf otl, .null, .int (nI n), .int (nI md), .int (nI thr), .float lfac]))], [(tl, .inl (g.2.1 6, 2 * bit, .inr (.inr (.inr (.inr (va_up (va_up tab ix o1) (ix + bit) (some ch_a173)))))))], l171_2, wc_2] 6 24 from ?_)
              exact g_vret B E dJ40_split_217 (⟨_, _, _, _, rfl, rfl, hl171_2, hwc_2⟩)
            · skip
              subst c208
              refine g_aload (q := 213) B dJ40_split_211 rfl rfl (rv_r _) ?_
              refine g_aload_n (q := 214) B dJ40_split_213 rfl rfl (rv_r _) ?_
              refine g_callV (q := 217) (is := [1, 2]) (kc2 := 6) (ks2 := 24) B [.ref tl] (ct_J40_treeify g J (tl := tl) (cap := 2 * bit) (tab := va_up (va_up tab ix o1) (ix + bit) (some ch_a173)) (ix := (ix + bit)) (cs := (cs.filter (fun a => !lob bit (hs a)))) (ns := (ns.filter (fun a => !lob bit (hs a)))) (hs := hs) (ky := ky) (vl := vl) (nx := nx) (pp0 := pp) (lf0 := lf) (rg0 := rg) (pv := pv) (rd0 := rd) (a := ch_a173) hwh (by omega) (by omega) (hhx) (by omega) (by simp [va_up]) (fun b hb c hc => hij b (List.mem_filter.mp hb).1 c (List.mem_filter.mp hc).1) (by simp only [va_up, if_true]; exact hH) (hPH) (hN.filter _) (hhM)) dJ40_split_214 rfl (rc_in B (ci := 25) rfl (k := 3) rfl ⟨_, TNG.mem hwh hhdH⟩) rfl q1704 q1705 q1706 q131 q1707 rfl rfl moJ40_treeify rfl rfl (by decide) (by decide) (Nat.le_of_ble_eq_true rfl) (Nat.le_of_ble_eq_true rfl) (Nat.le_of_ble_eq_true rfl) (fun _ _ hx => noX_x hx) (fun v214 L1 hp214 => ?_)
              obtain ⟨n1214, nx2214, pv2214, lf2214, rg2214, pp2214, rd2214, lo2214, hi2214, root2214, cs2214, u1_214, rfl, rfl, hu1_214, hm_214, hT2_214, hC2_214⟩ := hp214
              refine (show Go g κ 217 [some (.ref a), some (.ref h), some (.ref tl), some (.int (nI ix)), some (.int (nI bit)), some (.ref a), some (.ref lh_a208), some (va_rf lt), some (.ref ch_a173), some (va_rf ct), some (.int (nI ((cs.filter (fun a => lob bit (hs a))).length))), some (.int (nI ((cs.filter (fun a => !lob bit (hs a))).length))), some (.null), none] [] [[(h, .inr (23, [.null, .null, va_rf otl, .null, .int (nI n), .int (nI md), .int (nI thr), .float lfac]))], l171_2, [(tl, .inl (g.2.1 6, (2 * bit), .inr (.inr (.inr (.inr (va_up (va_up (va_up tab ix o1) (ix + bit) (some ch_a173)) (ix + bit) (some root2214)))))))], u1_214] 6 24 from ?_)
              rw [up_up]
              refine (show Go g κ 217 [some (.ref a), some (.ref h), some (.ref tl), some (.int (nI ix)), some (.int (nI bit)), some (.ref a), some (.ref lh_a208), some (va_rf lt), some (.ref ch_a173), some (va_rf ct), some (.int (nI ((cs.filter (fun a => lob bit (hs a))).length))), some (.int (nI ((cs.filter (fun a => !lob bit (hs a))).length))), some (.null), none] [] [[(h, .inr (23, [.null, .null, va_rf otl, .null, .int (nI n), .int (nI md), .int (nI thr), .float lfac]))], l171_2, [(tl, .inl (g.2.1 6, (2 * bit), .inr (.inr (.inr (.inr (va_up (va_up tab ix o1) (ix + bit) (some root2214)))))))], u1_214] 6 24 from ?_)
              obtain ⟨wc_3, ewc_3⟩ : ∃ w : va_W, w = ([u1_214] : List va_W).flatten := ⟨_, rfl⟩
              have hwc_3 : BinP g bm (some root2214) ((cs.filter (fun a => !lob bit (hs a))).map (fun a => (hs a, ky a, vl a))) wc_3 := by
                rw [ewc_3]
                exact Or.inr ⟨n1214, cs2214, hs, ky, vl, nx2214, pp2214, lf2214, rg2214, pv2214, rd2214, lo2214, hi2214, root2214, (by simpa using hu1_214), hC2_214.1, hC2_214.2.2.1, hC2_214.2.2.2, List.Perm.map _ ((List.perm_ext_iff_of_nodup (hN.filter _) hC2_214.2.2.1).mpr fun b => by rw [hhM b, ← hm_214 b, ← hC2_214.2.2.2 b]), hC2_214.2.1, hT2_214, hb10⟩
              refine g_close (w := wc_3) [3] rfl ewc_3 rfl ?_
              refine (show Go g κ 217 [some (.ref a), some (.ref h), some (.ref tl), some (.int (nI ix)), some (.int (nI bit)), some (.ref a), some (.ref lh_a208), some (va_rf lt), some (.ref ch_a173), some (va_rf ct), some (.int (nI ((cs.filter (fun a => lob bit (hs a))).length))), some (.int (nI ((cs.filter (fun a => !lob bit (hs a))).length))), some (.null), none] [] [[(h, .inr (23, [.null, .null, va_rf otl, .null, .int (nI n), .int (nI md), .int (nI thr), .float lfac]))], l171_2, [(tl, .inl (g.2.1 6, (2 * bit), .inr (.inr (.inr (.inr (va_up (va_up tab ix o1) (ix + bit) (some root2214)))))))], wc_3] 6 24 from ?_)
              refine g_pk [0, 1, 0, 0] rfl rfl ?_
              refine (show Go g κ 217 [some (.ref a), some (.ref h), some (.ref tl), some (.int (nI ix)), some (.int (nI bit)), some (.ref a), some (.ref lh_a208), some (va_rf lt), some (.ref ch_a173), some (va_rf ct), some (.int (nI ((cs.filter (fun a => lob bit (hs a))).length))), some (.int (nI ((cs.filter (fun a => !lob bit (hs a))).length))), some (.null), none] [] [[(h, .inr (23, [.null, .null, va_rf otl, .null, .int (nI n), .int (nI md), .int (nI thr), .float lfac]))], [(tl, .inl (g.2.1 6, (2 * bit), .inr (.inr (.inr (.inr (va_up (va_up tab ix o1) (ix + bit) (some root2214)))))))], l171_2, wc_3] 6 24 from ?_)
              exact g_vret B E dJ40_split_217 (⟨_, _, _, _, rfl, rfl, hl171_2, hwc_3⟩)
          · skip
            have hs6 : (cs.filter (fun a => !lob bit (hs a))).length ≤ 6 := by omega
            refine g_aload_n (q := 184) B dJ40_split_183 rfl rfl (rv_r _) ?_
            refine g_iload_n (q := 185) B dJ40_split_184 rfl rfl ?_
            refine g_iload (q := 187) B dJ40_split_185 rfl rfl ?_
            refine g_iadd (v := nI (ix + bit)) (q := 188) B dJ40_split_187 rfl (nI_add _ _) ?_
            refine g_aload (q := 190) B dJ40_split_188 rfl rfl (rv_r _) ?_
            refine g_aload_n (q := 191) B dJ40_split_190 rfl rfl (rv_r _) ?_
            refine g_callV (q := 194) (is := [0, 2]) (kc2 := 0) (ks2 := 0) B [.ref h] (ct_J40_untreeify g J (h := h) (tl := otl) (n := n) (md := md) (thr := thr) (lfac := lfac) (ns := (ns.filter (fun a => !lob bit (hs a)))) (hs := hs) (ky := ky) (vl := vl) (nx := nx) (pp := pp) (lf := lf) (rg := rg) (pv := pv) (rd := rd) (a := ch_a173) (cs := (cs.filter (fun a => !lob bit (hs a)))) hwh (hH) (fun b hb => (hhM b).mp hb)) dJ40_split_191 rfl (rc_in B (ci := 25) rfl (k := 3) rfl ⟨_, TNG.mem hwh hhdH⟩) rfl q1663 q1664 q1665 q131 q1666 rfl rfl moJ40_untreeify rfl rfl (by decide) (by decide) (Nat.le_of_ble_eq_true rfl) (by omega) (by omega) (fun _ _ hx => noX_x hx) (fun v191 L1 hp191 => ?_)
            obtain ⟨rs191, m1191, hs2191, ky2191, vl2191, nx2191, ds191, u2_191, rfl, rfl, hu2_191, hC2_191, hmp_191⟩ := hp191
            refine (show Go g κ 194 [some (.ref a), some (.ref h), some (.ref tl), some (.int (nI ix)), some (.int (nI bit)), some (.ref a), some (va_rf lh), some (va_rf lt), some (.ref ch_a173), some (va_rf ct), some (.int (nI ((cs.filter (fun a => lob bit (hs a))).length))), some (.int (nI ((cs.filter (fun a => !lob bit (hs a))).length))), some (.null), none] [.ref rs191, .int (nI (ix + bit)), .ref tl] [[(tl, .inl (g.2.1 6, 2 * bit, .inr (.inr (.inr (.inr (va_up tab ix o1))))))], l171_2, [(h, .inr (23, [.null, .null, va_rf otl, .null, .int (nI n), .int (nI md), .int (nI thr), .float lfac]))], wh, u2_191] 0 0 from ?_)
            have hrs191 := (hC2_191.2.2 rs191).mp (List.mem_of_mem_head? (by rw [← ch_head hC2_191.1]; rfl))
            refine g_astO (q := 195) (L2 := [[(tl, .inl (g.2.1 6, 2 * bit, .inr (.inr (.inr (.inr (va_up (va_up tab ix o1) (ix + bit) (some rs191)))))))], l171_2, [(h, .inr (23, [.null, .null, va_rf otl, .null, .int (nI n), .int (nI md), .int (nI thr), .float lfac]))], wh, u2_191]) B (k := 0) (t := 6) (C := "java/util/HashMap$Node") (rc_in B (ci := 24) rfl (k := 4) rfl ⟨_, NodG.mem hu2_191 hrs191⟩) as_s dJ40_split_194 rfl rfl rfl (vp_in_nI (by omega) (by omega)) (by rw [nI_clamp (by omega)] <;> rfl) ?_
            refine g_goto (tgt := 217) B dJ40_split_195 (by decide) ?_
            obtain ⟨wc_4, ewc_4⟩ : ∃ w : va_W, w = ([u2_191] : List va_W).flatten := ⟨_, rfl⟩
            have hwc_4 : BinP g bm (some rs191) ((cs.filter (fun a => !lob bit (hs a))).map (fun a => (hs a, ky a, vl a))) wc_4 := by
              rw [ewc_4]
              exact Or.inl ⟨m1191, ds191, hs2191, ky2191, vl2191, nx2191, (by simpa using hu2_191), hC2_191.1, hC2_191.2.1, hC2_191.2.2, List.Perm.of_eq (by rw [← hmp_191]), by have z := congrArg List.length hmp_191; simp only [List.length_map] at z; omega⟩
            refine g_close (w := wc_4) [4] rfl ewc_4 rfl ?_
            refine (show Go g κ 217 [some (.ref a), some (.ref h), some (.ref tl), some (.int (nI ix)), some (.int (nI bit)), some (.ref a), some (va_rf lh), some (va_rf lt), some (.ref ch_a173), some (va_rf ct), some (.int (nI ((cs.filter (fun a => lob bit (hs a))).length))), some (.int (nI ((cs.filter (fun a => !lob bit (hs a))).length))), some (.null), none] [] [[(tl, .inl (g.2.1 6, 2 * bit, .inr (.inr (.inr (.inr (va_up (va_up tab ix o1) (ix + bit) (some rs191)))))))], l171_2, [(h, .inr (23, [.null, .null, va_rf otl, .null, .int (nI n), .int (nI md), .int (nI thr), .float lfac]))], wh, wc_4] 0 0 from ?_)
            refine g_pk [2, 0, 0, 1] rfl rfl ?_
            refine (show Go g κ 217 [some (.ref a), some (.ref h), some (.ref tl), some (.int (nI ix)), some (.int (nI bit)), some (.ref a), some (va_rf lh), some (va_rf lt), some (.ref ch_a173), some (va_rf ct), some (.int (nI ((cs.filter (fun a => lob bit (hs a))).length))), some (.int (nI ((cs.filter (fun a => !lob bit (hs a))).length))), some (.null), none] [] [[(h, .inr (23, [.null, .null, va_rf otl, .null, .int (nI n), .int (nI md), .int (nI thr), .float lfac]))], [(tl, .inl (g.2.1 6, 2 * bit, .inr (.inr (.inr (.inr (va_up (va_up tab ix o1) (ix + bit) (some rs191)))))))], l171_2, wc_4] 0 0 from ?_)
            exact g_vret B E dJ40_split_217 (⟨_, _, _, _, rfl, rfl, hl171_2, hwc_4⟩)
      refine g_aload (q := 133) B dJ40_split_131 rfl rfl (rv_o _) ?_
      refine g_ifnull_o (tgt := 171) (q := 136) B dJ40_split_133 rfl (by decide) (fun c133 => ?_) (fun lh_a133 c133 => ?_)
      · skip
        subst c133
        have hem : (cs.filter (fun a => lob bit (hs a))) = [] := by
          have z := ch_head hL
          exact List.head?_eq_none_iff.mp z.symm
        refine g_pk [0, 0, 1] rfl rfl ?_
        refine (show Go g κ 171 [some (.ref a), some (.ref h), some (.ref tl), some (.int (nI ix)), some (.int (nI bit)), some (.ref a), some (.null), some (va_rf lt), some (va_rf ch), some (va_rf ct), some (.int (nI ((cs.filter (fun a => lob bit (hs a))).length))), some (.int (nI ((cs.filter (fun a => !lob bit (hs a))).length))), some (.null), none] [] [[(h, .inr (23, [.null, .null, va_rf otl, .null, .int (nI n), .int (nI md), .int (nI thr), .float lfac]))], [(tl, .inl (g.2.1 6, 2 * bit, .inr (.inr (.inr (.inr tab)))))], wh] 12 48 from ?_)
        obtain ⟨wc_5, ewc_5⟩ : ∃ w : va_W, w = ([] : List va_W).flatten := ⟨_, rfl⟩
        have hwc_5 : BinP g bm none ((cs.filter (fun a => lob bit (hs a))).map (fun a => (hs a, ky a, vl a))) wc_5 := by
          rw [ewc_5]
          exact by rw [hem]; exact BinP.nil
        refine g_close (w := wc_5) [] rfl ewc_5 rfl ?_
        refine (show Go g κ 171 [some (.ref a), some (.ref h), some (.ref tl), some (.int (nI ix)), some (.int (nI bit)), some (.ref a), some (.null), some (va_rf lt), some (va_rf ch), some (va_rf ct), some (.int (nI ((cs.filter (fun a => lob bit (hs a))).length))), some (.int (nI ((cs.filter (fun a => !lob bit (hs a))).length))), some (.null), none] [] [[(h, .inr (23, [.null, .null, va_rf otl, .null, .int (nI n), .int (nI md), .int (nI thr), .float lfac]))], [(tl, .inl (g.2.1 6, 2 * bit, .inr (.inr (.inr (.inr tab)))))], wh, wc_5] 12 48 from ?_)
        rw [show tab = va_up tab ix none from (up_same (hta)).symm]
        refine (show Go g κ 171 [some (.ref a), some (.ref h), some (.ref tl), some (.int (nI ix)), some (.int (nI bit)), some (.ref a), some (.null), some (va_rf lt), some (va_rf ch), some (va_rf ct), some (.int (nI ((cs.filter (fun a => lob bit (hs a))).length))), some (.int (nI ((cs.filter (fun a => !lob bit (hs a))).length))), some (.null), none] [] [[(h, .inr (23, [.null, .null, va_rf otl, .null, .int (nI n), .int (nI md), .int (nI thr), .float lfac]))], [(tl, .inl (g.2.1 6, 2 * bit, .inr (.inr (.inr (.inr (va_up tab ix none))))))], wh, wc_5] 12 48 from ?_)
        refine g_pk [0, 0, 1, 0] rfl rfl ?_
        refine (show Go g κ 171 [some (.ref a), some (.ref h), some (.ref tl), some (.int (nI ix)), some (.int (nI bit)), some (.ref a), some (.null), some (va_rf lt), some (va_rf ch), some (va_rf ct), some (.int (nI ((cs.filter (fun a => lob bit (hs a))).length))), some (.int (nI ((cs.filter (fun a => !lob bit (hs a))).length))), some (.null), none] [] [[(h, .inr (23, [.null, .null, va_rf otl, .null, .int (nI n), .int (nI md), .int (nI thr), .float lfac]))], [(tl, .inl (g.2.1 6, 2 * bit, .inr (.inr (.inr (.inr (va_up tab ix none))))))], wc_5, wh] 12 48 from ?_)
        refine g_room (kc2 := 6) (ks2 := 24) (by omega) (by omega) ?_
        exact ct171 none wc_5 hwc_5 
      · skip
        subst c133
        have hhdL := (hlM lh_a133).mp (List.mem_of_mem_head? (by rw [← ch_head hL]; rfl))
        refine g_iload (q := 138) B dJ40_split_136 rfl rfl ?_
        refine g_bipush (v := nI 6) (q := 140) B dJ40_split_138 rfl (by decide) ?_
        refine g_icmp_gt (tgt := 155) (q := 143) B dJ40_split_140 rfl (by decide) (nI_ltI (by omega) (by omega)) (fun c140 => ?_) (fun c140 => ?_)
        · skip
          refine g_aload_n (q := 156) B dJ40_split_155 rfl rfl (rv_r _) ?_
          refine g_iload_n (q := 157) B dJ40_split_156 rfl rfl ?_
          refine g_aload (q := 159) B dJ40_split_157 rfl rfl (rv_r _) ?_
          refine g_astO (q := 160) (L2 := [[(h, .inr (23, [.null, .null, va_rf otl, .null, .int (nI n), .int (nI md), .int (nI thr), .float lfac]))], [(tl, .inl (g.2.1 6, 2 * bit, .inr (.inr (.inr (.inr (va_up tab ix (some lh_a133)))))))], wl, wh]) B (k := 1) (t := 6) (C := "java/util/HashMap$TreeNode") (rc_in B (ci := 25) rfl (k := 2) rfl ⟨_, TNG.mem hwl hhdL⟩) (as_c q3727) dJ40_split_159 rfl rfl rfl (vp_in_nI (by omega) (by omega)) (by rw [nI_clamp (by omega)] <;> rfl) ?_
          refine g_aload (q := 162) B dJ40_split_160 rfl rfl (rv_o _) ?_
          refine g_ifnull_o (tgt := 171) (q := 165) B dJ40_split_162 rfl (by decide) (fun c162 => ?_) (fun ch_a162 c162 => ?_)
          · skip
            subst c162
            have hemo : (cs.filter (fun a => !lob bit (hs a))) = [] := by
              have z := ch_head hH
              exact List.head?_eq_none_iff.mp z.symm
            have hall : ∀ b ∈ ns, lob bit (hs b) = true := fun b hb => by
              cases e : lob bit (hs b) with
              | true => rfl
              | false =>
                have : b ∈ (cs.filter (fun a => !lob bit (hs a))) := List.mem_filter.mpr ⟨(hM b).mpr hb, by simp [e]⟩
                rw [hemo] at this; simp at this
            have hnf : ns.filter (fun a => lob bit (hs a)) = ns := List.filter_eq_self.mpr fun b hb => by simp [hall b hb]
            obtain ⟨wc_6, ewc_6⟩ : ∃ w : va_W, w = ([wl] : List va_W).flatten := ⟨_, rfl⟩
            have hwc_6 : BinP g bm (some lh_a133) ((cs.filter (fun a => lob bit (hs a))).map (fun a => (hs a, ky a, vl a))) wc_6 := by
              rw [ewc_6]
              exact Or.inr ⟨ns.filter (fun a => lob bit (hs a)), (cs.filter (fun a => lob bit (hs a))), hs, ky, vl, _, pp, lf, rg, _, rd, lo, hi, root, (by simpa using hwl), hL, hN.filter _, hlM, List.Perm.refl _, hPL, by rw [hnf]; exact hT, hb10⟩
            refine g_close (w := wc_6) [2] rfl ewc_6 rfl ?_
            refine (show Go g κ 171 [some (.ref a), some (.ref h), some (.ref tl), some (.int (nI ix)), some (.int (nI bit)), some (.ref a), some (.ref lh_a133), some (va_rf lt), some (.null), some (va_rf ct), some (.int (nI ((cs.filter (fun a => lob bit (hs a))).length))), some (.int (nI ((cs.filter (fun a => !lob bit (hs a))).length))), some (.null), none] [] [[(h, .inr (23, [.null, .null, va_rf otl, .null, .int (nI n), .int (nI md), .int (nI thr), .float lfac]))], [(tl, .inl (g.2.1 6, 2 * bit, .inr (.inr (.inr (.inr (va_up tab ix (some lh_a133)))))))], wh, wc_6] 12 48 from ?_)
            refine g_pk [0, 0, 1, 0] rfl rfl ?_
            refine (show Go g κ 171 [some (.ref a), some (.ref h), some (.ref tl), some (.int (nI ix)), some (.int (nI bit)), some (.ref a), some (.ref lh_a133), some (va_rf lt), some (.null), some (va_rf ct), some (.int (nI ((cs.filter (fun a => lob bit (hs a))).length))), some (.int (nI ((cs.filter (fun a => !lob bit (hs a))).length))), some (.null), none] [] [[(h, .inr (23, [.null, .null, va_rf otl, .null, .int (nI n), .int (nI md), .int (nI thr), .float lfac]))], [(tl, .inl (g.2.1 6, 2 * bit, .inr (.inr (.inr (.inr (va_up tab ix (some lh_a133)))))))], wc_6, wh] 12 48 from ?_)
            refine g_room (kc2 := 6) (ks2 := 24) (by omega) (by omega) ?_
            exact ct171 (some lh_a133) wc_6 hwc_6 
          · skip
            subst c162
            refine g_aload (q := 167) B dJ40_split_165 rfl rfl (rv_r _) ?_
            refine g_aload_n (q := 168) B dJ40_split_167 rfl rfl (rv_r _) ?_
            refine g_callV (q := 171) (is := [1, 1]) (kc2 := 12) (ks2 := 48) B [.ref tl] (ct_J40_treeify g J (tl := tl) (cap := 2 * bit) (tab := va_up tab ix (some lh_a133)) (ix := ix) (cs := (cs.filter (fun a => lob bit (hs a)))) (ns := (ns.filter (fun a => lob bit (hs a)))) (hs := hs) (ky := ky) (vl := vl) (nx := nx) (pp0 := pp) (lf0 := lf) (rg0 := rg) (pv := pv) (rd0 := rd) (a := lh_a133) hwl (by omega) (by omega) (hlx) (by omega) (by simp [va_up]) (fun b hb c hc => hij b (List.mem_filter.mp hb).1 c (List.mem_filter.mp hc).1) (by simp only [va_up, if_true]; exact hL) (hPL) (hN.filter _) (hlM)) dJ40_split_168 rfl (rc_in B (ci := 25) rfl (k := 2) rfl ⟨_, TNG.mem hwl hhdL⟩) rfl q1704 q1705 q1706 q131 q1707 rfl rfl moJ40_treeify rfl rfl (by decide) (by decide) (Nat.le_of_ble_eq_true rfl) (Nat.le_of_ble_eq_true rfl) (Nat.le_of_ble_eq_true rfl) (fun _ _ hx => noX_x hx) (fun v168 L1 hp168 => ?_)
            obtain ⟨n1168, nx2168, pv2168, lf2168, rg2168, pp2168, rd2168, lo2168, hi2168, root2168, cs2168, u1_168, rfl, rfl, hu1_168, hm_168, hT2_168, hC2_168⟩ := hp168
            refine (show Go g κ 171 [some (.ref a), some (.ref h), some (.ref tl), some (.int (nI ix)), some (.int (nI bit)), some (.ref a), some (.ref lh_a133), some (va_rf lt), some (.ref ch_a162), some (va_rf ct), some (.int (nI ((cs.filter (fun a => lob bit (hs a))).length))), some (.int (nI ((cs.filter (fun a => !lob bit (hs a))).length))), some (.null), none] [] [[(h, .inr (23, [.null, .null, va_rf otl, .null, .int (nI n), .int (nI md), .int (nI thr), .float lfac]))], wh, [(tl, .inl (g.2.1 6, (2 * bit), .inr (.inr (.inr (.inr (va_up (va_up tab ix (some lh_a133)) ix (some root2168)))))))], u1_168] 12 48 from ?_)
            rw [up_up]
            refine (show Go g κ 171 [some (.ref a), some (.ref h), some (.ref tl), some (.int (nI ix)), some (.int (nI bit)), some (.ref a), some (.ref lh_a133), some (va_rf lt), some (.ref ch_a162), some (va_rf ct), some (.int (nI ((cs.filter (fun a => lob bit (hs a))).length))), some (.int (nI ((cs.filter (fun a => !lob bit (hs a))).length))), some (.null), none] [] [[(h, .inr (23, [.null, .null, va_rf otl, .null, .int (nI n), .int (nI md), .int (nI thr), .float lfac]))], wh, [(tl, .inl (g.2.1 6, (2 * bit), .inr (.inr (.inr (.inr (va_up tab ix (some root2168)))))))], u1_168] 12 48 from ?_)
            obtain ⟨wc_7, ewc_7⟩ : ∃ w : va_W, w = ([u1_168] : List va_W).flatten := ⟨_, rfl⟩
            have hwc_7 : BinP g bm (some root2168) ((cs.filter (fun a => lob bit (hs a))).map (fun a => (hs a, ky a, vl a))) wc_7 := by
              rw [ewc_7]
              exact Or.inr ⟨n1168, cs2168, hs, ky, vl, nx2168, pp2168, lf2168, rg2168, pv2168, rd2168, lo2168, hi2168, root2168, (by simpa using hu1_168), hC2_168.1, hC2_168.2.2.1, hC2_168.2.2.2, List.Perm.map _ ((List.perm_ext_iff_of_nodup (hN.filter _) hC2_168.2.2.1).mpr fun b => by rw [hlM b, ← hm_168 b, ← hC2_168.2.2.2 b]), hC2_168.2.1, hT2_168, hb10⟩
            refine g_close (w := wc_7) [3] rfl ewc_7 rfl ?_
            refine (show Go g κ 171 [some (.ref a), some (.ref h), some (.ref tl), some (.int (nI ix)), some (.int (nI bit)), some (.ref a), some (.ref lh_a133), some (va_rf lt), some (.ref ch_a162), some (va_rf ct), some (.int (nI ((cs.filter (fun a => lob bit (hs a))).length))), some (.int (nI ((cs.filter (fun a => !lob bit (hs a))).length))), some (.null), none] [] [[(h, .inr (23, [.null, .null, va_rf otl, .null, .int (nI n), .int (nI md), .int (nI thr), .float lfac]))], wh, [(tl, .inl (g.2.1 6, (2 * bit), .inr (.inr (.inr (.inr (va_up tab ix (some root2168)))))))], wc_7] 12 48 from ?_)
            refine g_pk [0, 1, 1, 0] rfl rfl ?_
            refine (show Go g κ 171 [some (.ref a), some (.ref h), some (.ref tl), some (.int (nI ix)), some (.int (nI bit)), some (.ref a), some (.ref lh_a133), some (va_rf lt), some (.ref ch_a162), some (va_rf ct), some (.int (nI ((cs.filter (fun a => lob bit (hs a))).length))), some (.int (nI ((cs.filter (fun a => !lob bit (hs a))).length))), some (.null), none] [] [[(h, .inr (23, [.null, .null, va_rf otl, .null, .int (nI n), .int (nI md), .int (nI thr), .float lfac]))], [(tl, .inl (g.2.1 6, (2 * bit), .inr (.inr (.inr (.inr (va_up tab ix (some root2168)))))))], wc_7, wh] 12 48 from ?_)
            refine g_room (kc2 := 6) (ks2 := 24) (by omega) (by omega) ?_
            exact ct171 (some root2168) wc_7 hwc_7 
        · skip
          have hs6 : (cs.filter (fun a => lob bit (hs a))).length ≤ 6 := by omega
          refine g_aload_n (q := 144) B dJ40_split_143 rfl rfl (rv_r _) ?_
          refine g_iload_n (q := 145) B dJ40_split_144 rfl rfl ?_
          refine g_aload (q := 147) B dJ40_split_145 rfl rfl (rv_r _) ?_
          refine g_aload_n (q := 148) B dJ40_split_147 rfl rfl (rv_r _) ?_
          refine g_callV (q := 151) (is := [0, 1]) (kc2 := 6) (ks2 := 24) B [.ref h] (ct_J40_untreeify g J (h := h) (tl := otl) (n := n) (md := md) (thr := thr) (lfac := lfac) (ns := (ns.filter (fun a => lob bit (hs a)))) (hs := hs) (ky := ky) (vl := vl) (nx := nx) (pp := pp) (lf := lf) (rg := rg) (pv := pv) (rd := rd) (a := lh_a133) (cs := (cs.filter (fun a => lob bit (hs a)))) hwl (hL) (fun b hb => (hlM b).mp hb)) dJ40_split_148 rfl (rc_in B (ci := 25) rfl (k := 2) rfl ⟨_, TNG.mem hwl hhdL⟩) rfl q1663 q1664 q1665 q131 q1666 rfl rfl moJ40_untreeify rfl rfl (by decide) (by decide) (Nat.le_of_ble_eq_true rfl) (by omega) (by omega) (fun _ _ hx => noX_x hx) (fun v148 L1 hp148 => ?_)
          obtain ⟨rs148, m1148, hs2148, ky2148, vl2148, nx2148, ds148, u2_148, rfl, rfl, hu2_148, hC2_148, hmp_148⟩ := hp148
          refine (show Go g κ 151 [some (.ref a), some (.ref h), some (.ref tl), some (.int (nI ix)), some (.int (nI bit)), some (.ref a), some (.ref lh_a133), some (va_rf lt), some (va_rf ch), some (va_rf ct), some (.int (nI ((cs.filter (fun a => lob bit (hs a))).length))), some (.int (nI ((cs.filter (fun a => !lob bit (hs a))).length))), some (.null), none] [.ref rs148, .int (nI ix), .ref tl] [[(tl, .inl (g.2.1 6, 2 * bit, .inr (.inr (.inr (.inr tab)))))], wh, [(h, .inr (23, [.null, .null, va_rf otl, .null, .int (nI n), .int (nI md), .int (nI thr), .float lfac]))], wl, u2_148] 6 24 from ?_)
          have hrs148 := (hC2_148.2.2 rs148).mp (List.mem_of_mem_head? (by rw [← ch_head hC2_148.1]; rfl))
          refine g_astO (q := 152) (L2 := [[(tl, .inl (g.2.1 6, 2 * bit, .inr (.inr (.inr (.inr (va_up tab ix (some rs148)))))))], wh, [(h, .inr (23, [.null, .null, va_rf otl, .null, .int (nI n), .int (nI md), .int (nI thr), .float lfac]))], wl, u2_148]) B (k := 0) (t := 6) (C := "java/util/HashMap$Node") (rc_in B (ci := 24) rfl (k := 4) rfl ⟨_, NodG.mem hu2_148 hrs148⟩) as_s dJ40_split_151 rfl rfl rfl (vp_in_nI (by omega) (by omega)) (by rw [nI_clamp (by omega)] <;> rfl) ?_
          refine g_goto (tgt := 171) B dJ40_split_152 (by decide) ?_
          obtain ⟨wc_8, ewc_8⟩ : ∃ w : va_W, w = ([u2_148] : List va_W).flatten := ⟨_, rfl⟩
          have hwc_8 : BinP g bm (some rs148) ((cs.filter (fun a => lob bit (hs a))).map (fun a => (hs a, ky a, vl a))) wc_8 := by
            rw [ewc_8]
            exact Or.inl ⟨m1148, ds148, hs2148, ky2148, vl2148, nx2148, (by simpa using hu2_148), hC2_148.1, hC2_148.2.1, hC2_148.2.2, List.Perm.of_eq (by rw [← hmp_148]), by have z := congrArg List.length hmp_148; simp only [List.length_map] at z; omega⟩
          refine g_close (w := wc_8) [4] rfl ewc_8 rfl ?_
          refine (show Go g κ 171 [some (.ref a), some (.ref h), some (.ref tl), some (.int (nI ix)), some (.int (nI bit)), some (.ref a), some (.ref lh_a133), some (va_rf lt), some (va_rf ch), some (va_rf ct), some (.int (nI ((cs.filter (fun a => lob bit (hs a))).length))), some (.int (nI ((cs.filter (fun a => !lob bit (hs a))).length))), some (.null), none] [] [[(tl, .inl (g.2.1 6, 2 * bit, .inr (.inr (.inr (.inr (va_up tab ix (some rs148)))))))], wh, [(h, .inr (23, [.null, .null, va_rf otl, .null, .int (nI n), .int (nI md), .int (nI thr), .float lfac]))], wl, wc_8] 6 24 from ?_)
          refine g_pk [2, 0, 2, 0] rfl rfl ?_
          refine (show Go g κ 171 [some (.ref a), some (.ref h), some (.ref tl), some (.int (nI ix)), some (.int (nI bit)), some (.ref a), some (.ref lh_a133), some (va_rf lt), some (va_rf ch), some (va_rf ct), some (.int (nI ((cs.filter (fun a => lob bit (hs a))).length))), some (.int (nI ((cs.filter (fun a => !lob bit (hs a))).length))), some (.null), none] [] [[(h, .inr (23, [.null, .null, va_rf otl, .null, .int (nI n), .int (nI md), .int (nI thr), .float lfac]))], [(tl, .inl (g.2.1 6, 2 * bit, .inr (.inr (.inr (.inr (va_up tab ix (some rs148)))))))], wc_8, wh] 6 24 from ?_)
          exact ct171 (some rs148) wc_8 hwc_8 
    · skip
      subst c27
      obtain ⟨vt, hvs⟩ : ∃ vt, vs = y_a27 :: vt := by
        cases vs with
        | nil => exact absurd hV (by simp [Ch])
        | cons z t => obtain ⟨e, -⟩ := hV; cases e; exact ⟨t, rfl⟩
      subst hvs
      have hec : y_a27 ∈ cs := by rw [hcs]; simp
      have hem := (hM _).mp hec
      have hVt := hV.2
      have hN2 := hN
      rw [hcs] at hN2
      have hN3 := nd_mid hN2
      have heu : y_a27 ∉ us := fun e => (List.nodup_cons.mp hN3).1 (List.mem_append_left _ e)
      have hev : y_a27 ∉ vt := fun e => (List.nodup_cons.mp hN3).1 (List.mem_append_right _ e)
      have hel : y_a27 ∉ los := fun e => heu (by rw [hlos] at e; exact (List.mem_filter.mp e).1)
      have heh : y_a27 ∉ his := fun e => heu (by rw [hhis] at e; exact (List.mem_filter.mp e).1)
      have huv : ∀ b ∈ us, b ∉ vt := fun b hb hv => by
        have := (List.nodup_cons.mp hN3).2
        rw [List.nodup_append] at this
        exact this.2.2 b hb b hv rfl
      have hlm : ∀ b ∈ los, b ∈ us ∧ lob bit (hs b) = true := fun b hb => by rw [hlos] at hb; exact List.mem_filter.mp hb
      have hhm : ∀ b ∈ his, b ∈ us ∧ lob bit (hs b) = false := fun b hb => by rw [hhis] at hb; have := List.mem_filter.mp hb; exact ⟨this.1, by simpa using this.2⟩
      have hum : ∀ b ∈ us, b ∈ ns := fun b hb => (hM b).mp (by rw [hcs]; simp [hb])
      have hll : los.length ≤ us.length ∧ his.length ≤ us.length ∧ us.length < 100000 := by
        rw [hlos, hhis]
        exact ⟨List.length_filter_le _ _, List.length_filter_le _ _, by have := hlen; rw [hcs] at this; simp at this; omega⟩
      have hlm2 := hll
      refine g_aload (q := 32) B dJ40_split_30 rfl rfl (rv_r _) ?_
      refine g_getSM (v := va_rf (nx y_a27)) (q := 35) B (ci := 25) (k := 2) (j := 5) in_J40 rfl dJ40_split_32 rfl rfl (TNG.mem hl25_2 hem) (Nat.le_of_ble_eq_true rfl) q1690 q1691 rfl ?_
      have hcn := ch_head hVt
      rcases hnx : nx y_a27 with _ | z
      · skip
        refine (show Go g κ 35 [some (.ref a), some (.ref h), some (.ref tl), some (.int (nI ix)), some (.int (nI bit)), some (.ref a), some (va_rf lh), some (va_rf lt), some (va_rf ch), some (va_rf ct), some (.int (nI los.length)), some (.int (nI his.length)), some (.ref y_a27), none] [.null] [[(h, .inr (23, [.null, .null, va_rf otl, .null, .int (nI n), .int (nI md), .int (nI thr), .float lfac]))], [(tl, .inl (g.2.1 6, 2 * bit, .inr (.inr (.inr (.inr tab)))))], l25_2] 12 48 from ?_)
        refine g_castN (q := 38) B dJ40_split_35 rfl ?_
        refine g_astore (q := 40) (lv2 := [some (.ref a), some (.ref h), some (.ref tl), some (.int (nI ix)), some (.int (nI bit)), some (.ref a), some (va_rf lh), some (va_rf lt), some (va_rf ch), some (va_rf ct), some (.int (nI los.length)), some (.int (nI his.length)), some (.ref y_a27), some (.null)]) B dJ40_split_38 rfl (Nat.le_of_ble_eq_true rfl) rv_n rfl ?_
        refine g_aload (q := 42) B dJ40_split_40 rfl rfl (rv_r _) ?_
        refine g_aconst_null (q := 43) B dJ40_split_42 rfl ?_
        refine g_putTNG5 (q := 46) (k := 2) (x := none) B hl25_2 hem dJ40_split_43 rfl rfl q1690 (Or.inr q1691) (fun wa_9_43 hwa_9_43 => ?_)
        refine (show Go g κ 46 [some (.ref a), some (.ref h), some (.ref tl), some (.int (nI ix)), some (.int (nI bit)), some (.ref a), some (va_rf lh), some (va_rf lt), some (va_rf ch), some (va_rf ct), some (.int (nI los.length)), some (.int (nI his.length)), some (.ref y_a27), some (.null)] [] [[(h, .inr (23, [.null, .null, va_rf otl, .null, .int (nI n), .int (nI md), .int (nI thr), .float lfac]))], [(tl, .inl (g.2.1 6, 2 * bit, .inr (.inr (.inr (.inr tab)))))], wa_9_43] 12 48 from ?_)
        refine g_aload (q := 48) B dJ40_split_46 rfl rfl (rv_r _) ?_
        refine g_getSM (v := .int (hs y_a27)) (q := 51) B (ci := 25) (k := 2) (j := 2) in_J40 rfl dJ40_split_48 rfl rfl (TNG.mem hwa_9_43 hem) (Nat.le_of_ble_eq_true rfl) q1677 q1678 rfl ?_
        refine g_iload (q := 53) B dJ40_split_51 rfl rfl ?_
        refine g_iand (v := hs y_a27 &&& nI bit) (q := 54) B dJ40_split_53 rfl rfl ?_
        refine g_if_ne (tgt := 92) (q := 57) B dJ40_split_54 rfl (by decide) (Iff.rfl) (fun c54 => ?_) (fun c54 => ?_)
        · skip
          refine g_aload (q := 94) B dJ40_split_92 rfl rfl (rv_r _) ?_
          refine g_aload (q := 96) B dJ40_split_94 rfl rfl (rv_o _) ?_
          refine g_dup_x1 (q := 97) B dJ40_split_96 rfl (rv_c (rv_o _)) rfl ?_
          refine g_putTNG9 (q := 100) (k := 2) (x := ct) B hwa_9_43 hem dJ40_split_97 rfl rfl q1745 (Or.inl rfl) (fun wa_10_97 hwa_10_97 => ?_)
          refine (show Go g κ 100 [some (.ref a), some (.ref h), some (.ref tl), some (.int (nI ix)), some (.int (nI bit)), some (.ref a), some (va_rf lh), some (va_rf lt), some (va_rf ch), some (va_rf ct), some (.int (nI los.length)), some (.int (nI his.length)), some (.ref y_a27), some (.null)] [va_rf ct] [[(h, .inr (23, [.null, .null, va_rf otl, .null, .int (nI n), .int (nI md), .int (nI thr), .float lfac]))], [(tl, .inl (g.2.1 6, 2 * bit, .inr (.inr (.inr (.inr tab)))))], wa_10_97] 12 48 from ?_)
          refine g_ifnonnull_o (tgt := 110) (q := 103) B dJ40_split_100 rfl (by decide) (fun ct_a100 c100 => ?_) (fun c100 => ?_)
          · skip
            subst c100
            have htl : ct_a100 ∈ his := gl_mem hct
            have htn : ct_a100 ∈ ns := hum _ (hhm _ htl).1
            have hte : ct_a100 ≠ y_a27 := fun e => heu (e ▸ (hhm _ htl).1)
            refine g_aload (q := 112) B dJ40_split_110 rfl rfl (rv_r _) ?_
            refine g_aload (q := 114) B dJ40_split_112 rfl rfl (rv_r _) ?_
            refine g_putTNG5 (q := 117) (k := 2) (x := some y_a27) B hwa_10_97 htn dJ40_split_114 rfl rfl q1690 (Or.inr q1691) (fun wa_11_114 hwa_11_114 => ?_)
            refine (show Go g κ 117 [some (.ref a), some (.ref h), some (.ref tl), some (.int (nI ix)), some (.int (nI bit)), some (.ref a), some (va_rf lh), some (va_rf lt), some (va_rf ch), some (.ref ct_a100), some (.int (nI los.length)), some (.int (nI his.length)), some (.ref y_a27), some (.null)] [] [[(h, .inr (23, [.null, .null, va_rf otl, .null, .int (nI n), .int (nI md), .int (nI thr), .float lfac]))], [(tl, .inl (g.2.1 6, 2 * bit, .inr (.inr (.inr (.inr tab)))))], wa_11_114] 12 48 from ?_)
            refine g_aload (q := 119) B dJ40_split_117 rfl rfl (rv_r _) ?_
            refine g_astore (q := 121) (lv2 := [some (.ref a), some (.ref h), some (.ref tl), some (.int (nI ix)), some (.int (nI bit)), some (.ref a), some (va_rf lh), some (va_rf lt), some (va_rf ch), some (.ref y_a27), some (.int (nI los.length)), some (.int (nI his.length)), some (.ref y_a27), some (.null)]) B dJ40_split_119 rfl (Nat.le_of_ble_eq_true rfl) (rv_r _) (by simp only [lst1, lclr_o]; try rfl) ?_
            refine g_iinc (v := nI ((his ++ [y_a27]).length)) (q := 124) (lv2 := [some (.ref a), some (.ref h), some (.ref tl), some (.int (nI ix)), some (.int (nI bit)), some (.ref a), some (va_rf lh), some (va_rf lt), some (va_rf ch), some (.ref y_a27), some (.int (nI los.length)), some (.int (nI ((his ++ [y_a27]).length))), some (.ref y_a27), some (.null)]) B dJ40_split_121 rfl rfl (by rw [List.length_append]; exact nI_add _ 1) (Nat.le_of_ble_eq_true rfl) rfl ?_
            refine g_aload (q := 126) B dJ40_split_124 rfl rfl rv_n ?_
            refine g_astore (q := 128) (lv2 := [some (.ref a), some (.ref h), some (.ref tl), some (.int (nI ix)), some (.int (nI bit)), some (.ref a), some (va_rf lh), some (va_rf lt), some (va_rf ch), some (.ref y_a27), some (.int (nI los.length)), some (.int (nI ((his ++ [y_a27]).length))), some (.null), some (.null)]) B dJ40_split_126 rfl (Nat.le_of_ble_eq_true rfl) rv_n rfl ?_
            refine g_goto (tgt := 25) B dJ40_split_128 (by decide) ?_
            refine g_fg 13 rfl ?_
            exact ih25 _ (by rw [← hmu25]; simp) (us ++ [y_a27]) vt los (his ++ [y_a27]) none (fup (fup nx y_a27 none) ct_a100 (some y_a27)) (fup pv y_a27 (some ct_a100)) lh lt ch (some y_a27) wa_11_114 hwa_11_114 (by rw [hcs]; simp) (by rw [List.filter_append, ← hlos]; simp [lob, c54]) (by rw [List.filter_append, ← hhis]; simp [lob, c54]) (by rw [← hnx]; exact ch_congr hVt (fun b hb => by rw [fup_n (fun (e : b = ct_a100) => huv _ (hhm _ htl).1 (e ▸ hb)), fup_n (fun (e : b = y_a27) => hev (e ▸ hb))])) (ch_congr hL (fun b hb => by rw [fup_n (fun (e : b = ct_a100) => by have z1 := (hhm _ htl).2; have z2 := (hlm b hb).2; rw [e] at z2; rw [z1] at z2; cases z2), fup_n (fun (e : b = y_a27) => hel (e ▸ hb))])) (ch_snoc hH (by rw [hhis]; exact ((List.nodup_append.mp hN2).1.filter _)) heh hct) (pc_congr hPL (fun b hb => by rw [fup_n (fun (e : b = y_a27) => hel (e ▸ hb))])) (pc_snoc hPH heh (fun t ht => by rw [hct] at ht; exact ht) (fun e => by rw [e] at hct; first | done | exact hct.symm)) (hlt) (gl_snoc) rfl
          · skip
            subst c100
            refine g_aload (q := 105) B dJ40_split_103 rfl rfl (rv_r _) ?_
            refine g_astore (q := 107) (lv2 := [some (.ref a), some (.ref h), some (.ref tl), some (.int (nI ix)), some (.int (nI bit)), some (.ref a), some (va_rf lh), some (va_rf lt), some (.ref y_a27), some (.null), some (.int (nI los.length)), some (.int (nI his.length)), some (.ref y_a27), some (.null)]) B dJ40_split_105 rfl (Nat.le_of_ble_eq_true rfl) (rv_r _) (by simp only [lst1, lclr_o]; try rfl) ?_
            refine g_goto (tgt := 117) B dJ40_split_107 (by decide) ?_
            refine g_aload (q := 119) B dJ40_split_117 rfl rfl (rv_r _) ?_
            refine g_astore (q := 121) (lv2 := [some (.ref a), some (.ref h), some (.ref tl), some (.int (nI ix)), some (.int (nI bit)), some (.ref a), some (va_rf lh), some (va_rf lt), some (.ref y_a27), some (.ref y_a27), some (.int (nI los.length)), some (.int (nI his.length)), some (.ref y_a27), some (.null)]) B dJ40_split_119 rfl (Nat.le_of_ble_eq_true rfl) (rv_r _) rfl ?_
            refine g_iinc (v := nI ((his ++ [y_a27]).length)) (q := 124) (lv2 := [some (.ref a), some (.ref h), some (.ref tl), some (.int (nI ix)), some (.int (nI bit)), some (.ref a), some (va_rf lh), some (va_rf lt), some (.ref y_a27), some (.ref y_a27), some (.int (nI los.length)), some (.int (nI ((his ++ [y_a27]).length))), some (.ref y_a27), some (.null)]) B dJ40_split_121 rfl rfl (by rw [List.length_append]; exact nI_add _ 1) (Nat.le_of_ble_eq_true rfl) rfl ?_
            refine g_aload (q := 126) B dJ40_split_124 rfl rfl rv_n ?_
            refine g_astore (q := 128) (lv2 := [some (.ref a), some (.ref h), some (.ref tl), some (.int (nI ix)), some (.int (nI bit)), some (.ref a), some (va_rf lh), some (va_rf lt), some (.ref y_a27), some (.ref y_a27), some (.int (nI los.length)), some (.int (nI ((his ++ [y_a27]).length))), some (.null), some (.null)]) B dJ40_split_126 rfl (Nat.le_of_ble_eq_true rfl) rv_n rfl ?_
            refine g_goto (tgt := 25) B dJ40_split_128 (by decide) ?_
            refine g_fg 13 rfl ?_
            exact ih25 _ (by rw [← hmu25]; simp) (us ++ [y_a27]) vt los (his ++ [y_a27]) none (fup nx y_a27 none) (fup pv y_a27 (none)) lh lt (some y_a27) (some y_a27) wa_10_97 hwa_10_97 (by rw [hcs]; simp) (by rw [List.filter_append, ← hlos]; simp [lob, c54]) (by rw [List.filter_append, ← hhis]; simp [lob, c54]) (by rw [← hnx]; exact ch_congr hVt (fun b hb => by rw [fup_n (fun (e : b = y_a27) => hev (e ▸ hb))])) (ch_congr hL (fun b hb => by rw [fup_n (fun (e : b = y_a27) => hel (e ▸ hb))])) (by rw [gl_none hct]; exact ⟨rfl, fup_s _ _ _⟩) (pc_congr hPL (fun b hb => by rw [fup_n (fun (e : b = y_a27) => hel (e ▸ hb))])) (pc_snoc hPH heh (fun t ht => by rw [hct] at ht; exact ht) (fun e => by rw [e] at hct; first | done | exact hct.symm)) (hlt) (gl_snoc) rfl
        · skip
          have c54 := Classical.not_not.mp c54
          refine g_aload (q := 59) B dJ40_split_57 rfl rfl (rv_r _) ?_
          refine g_aload (q := 61) B dJ40_split_59 rfl rfl (rv_o _) ?_
          refine g_dup_x1 (q := 62) B dJ40_split_61 rfl (rv_c (rv_o _)) rfl ?_
          refine g_putTNG9 (q := 65) (k := 2) (x := lt) B hwa_9_43 hem dJ40_split_62 rfl rfl q1745 (Or.inl rfl) (fun wa_12_62 hwa_12_62 => ?_)
          refine (show Go g κ 65 [some (.ref a), some (.ref h), some (.ref tl), some (.int (nI ix)), some (.int (nI bit)), some (.ref a), some (va_rf lh), some (va_rf lt), some (va_rf ch), some (va_rf ct), some (.int (nI los.length)), some (.int (nI his.length)), some (.ref y_a27), some (.null)] [va_rf lt] [[(h, .inr (23, [.null, .null, va_rf otl, .null, .int (nI n), .int (nI md), .int (nI thr), .float lfac]))], [(tl, .inl (g.2.1 6, 2 * bit, .inr (.inr (.inr (.inr tab)))))], wa_12_62] 12 48 from ?_)
          refine g_ifnonnull_o (tgt := 75) (q := 68) B dJ40_split_65 rfl (by decide) (fun lt_a65 c65 => ?_) (fun c65 => ?_)
          · skip
            subst c65
            have htl : lt_a65 ∈ los := gl_mem hlt
            have htn : lt_a65 ∈ ns := hum _ (hlm _ htl).1
            have hte : lt_a65 ≠ y_a27 := fun e => heu (e ▸ (hlm _ htl).1)
            refine g_aload (q := 77) B dJ40_split_75 rfl rfl (rv_r _) ?_
            refine g_aload (q := 79) B dJ40_split_77 rfl rfl (rv_r _) ?_
            refine g_putTNG5 (q := 82) (k := 2) (x := some y_a27) B hwa_12_62 htn dJ40_split_79 rfl rfl q1690 (Or.inr q1691) (fun wa_13_79 hwa_13_79 => ?_)
            refine (show Go g κ 82 [some (.ref a), some (.ref h), some (.ref tl), some (.int (nI ix)), some (.int (nI bit)), some (.ref a), some (va_rf lh), some (.ref lt_a65), some (va_rf ch), some (va_rf ct), some (.int (nI los.length)), some (.int (nI his.length)), some (.ref y_a27), some (.null)] [] [[(h, .inr (23, [.null, .null, va_rf otl, .null, .int (nI n), .int (nI md), .int (nI thr), .float lfac]))], [(tl, .inl (g.2.1 6, 2 * bit, .inr (.inr (.inr (.inr tab)))))], wa_13_79] 12 48 from ?_)
            refine g_aload (q := 84) B dJ40_split_82 rfl rfl (rv_r _) ?_
            refine g_astore (q := 86) (lv2 := [some (.ref a), some (.ref h), some (.ref tl), some (.int (nI ix)), some (.int (nI bit)), some (.ref a), some (va_rf lh), some (.ref y_a27), some (va_rf ch), some (va_rf ct), some (.int (nI los.length)), some (.int (nI his.length)), some (.ref y_a27), some (.null)]) B dJ40_split_84 rfl (Nat.le_of_ble_eq_true rfl) (rv_r _) (by simp only [lst1, lclr_o]; try rfl) ?_
            refine g_iinc (v := nI ((los ++ [y_a27]).length)) (q := 89) (lv2 := [some (.ref a), some (.ref h), some (.ref tl), some (.int (nI ix)), some (.int (nI bit)), some (.ref a), some (va_rf lh), some (.ref y_a27), some (va_rf ch), some (va_rf ct), some (.int (nI ((los ++ [y_a27]).length))), some (.int (nI his.length)), some (.ref y_a27), some (.null)]) B dJ40_split_86 rfl rfl (by rw [List.length_append]; exact nI_add _ 1) (Nat.le_of_ble_eq_true rfl) (by simp only [lst1, lclr_o]; try rfl) ?_
            refine g_goto (tgt := 124) B dJ40_split_89 (by decide) ?_
            refine g_aload (q := 126) B dJ40_split_124 rfl rfl rv_n ?_
            refine g_astore (q := 128) (lv2 := [some (.ref a), some (.ref h), some (.ref tl), some (.int (nI ix)), some (.int (nI bit)), some (.ref a), some (va_rf lh), some (.ref y_a27), some (va_rf ch), some (va_rf ct), some (.int (nI ((los ++ [y_a27]).length))), some (.int (nI his.length)), some (.null), some (.null)]) B dJ40_split_126 rfl (Nat.le_of_ble_eq_true rfl) rv_n rfl ?_
            refine g_goto (tgt := 25) B dJ40_split_128 (by decide) ?_
            refine g_fg 13 rfl ?_
            exact ih25 _ (by rw [← hmu25]; simp) (us ++ [y_a27]) vt (los ++ [y_a27]) his none (fup (fup nx y_a27 none) lt_a65 (some y_a27)) (fup pv y_a27 (some lt_a65)) lh (some y_a27) ch ct wa_13_79 hwa_13_79 (by rw [hcs]; simp) (by rw [List.filter_append, ← hlos]; simp [lob, c54]) (by rw [List.filter_append, ← hhis]; simp [lob, c54]) (by rw [← hnx]; exact ch_congr hVt (fun b hb => by rw [fup_n (fun (e : b = lt_a65) => huv _ (hlm _ htl).1 (e ▸ hb)), fup_n (fun (e : b = y_a27) => hev (e ▸ hb))])) (ch_snoc hL (by rw [hlos]; exact ((List.nodup_append.mp hN2).1.filter _)) hel hlt) (ch_congr hH (fun b hb => by rw [fup_n (fun (e : b = lt_a65) => by have z1 := (hlm _ htl).2; have z2 := (hhm b hb).2; rw [e] at z2; rw [z1] at z2; cases z2), fup_n (fun (e : b = y_a27) => heh (e ▸ hb))])) (pc_snoc hPL hel (fun t ht => by rw [hlt] at ht; exact ht) (fun e => by rw [e] at hlt; first | done | exact hlt.symm)) (pc_congr hPH (fun b hb => by rw [fup_n (fun (e : b = y_a27) => heh (e ▸ hb))])) (gl_snoc) (hct) rfl
          · skip
            subst c65
            refine g_aload (q := 70) B dJ40_split_68 rfl rfl (rv_r _) ?_
            refine g_astore (q := 72) (lv2 := [some (.ref a), some (.ref h), some (.ref tl), some (.int (nI ix)), some (.int (nI bit)), some (.ref a), some (.ref y_a27), some (.null), some (va_rf ch), some (va_rf ct), some (.int (nI los.length)), some (.int (nI his.length)), some (.ref y_a27), some (.null)]) B dJ40_split_70 rfl (Nat.le_of_ble_eq_true rfl) (rv_r _) rfl ?_
            refine g_goto (tgt := 82) B dJ40_split_72 (by decide) ?_
            refine g_aload (q := 84) B dJ40_split_82 rfl rfl (rv_r _) ?_
            refine g_astore (q := 86) (lv2 := [some (.ref a), some (.ref h), some (.ref tl), some (.int (nI ix)), some (.int (nI bit)), some (.ref a), some (.ref y_a27), some (.ref y_a27), some (va_rf ch), some (va_rf ct), some (.int (nI los.length)), some (.int (nI his.length)), some (.ref y_a27), some (.null)]) B dJ40_split_84 rfl (Nat.le_of_ble_eq_true rfl) (rv_r _) rfl ?_
            refine g_iinc (v := nI ((los ++ [y_a27]).length)) (q := 89) (lv2 := [some (.ref a), some (.ref h), some (.ref tl), some (.int (nI ix)), some (.int (nI bit)), some (.ref a), some (.ref y_a27), some (.ref y_a27), some (va_rf ch), some (va_rf ct), some (.int (nI ((los ++ [y_a27]).length))), some (.int (nI his.length)), some (.ref y_a27), some (.null)]) B dJ40_split_86 rfl rfl (by rw [List.length_append]; exact nI_add _ 1) (Nat.le_of_ble_eq_true rfl) (by simp only [lst1, lclr_o]; try rfl) ?_
            refine g_goto (tgt := 124) B dJ40_split_89 (by decide) ?_
            refine g_aload (q := 126) B dJ40_split_124 rfl rfl rv_n ?_
            refine g_astore (q := 128) (lv2 := [some (.ref a), some (.ref h), some (.ref tl), some (.int (nI ix)), some (.int (nI bit)), some (.ref a), some (.ref y_a27), some (.ref y_a27), some (va_rf ch), some (va_rf ct), some (.int (nI ((los ++ [y_a27]).length))), some (.int (nI his.length)), some (.null), some (.null)]) B dJ40_split_126 rfl (Nat.le_of_ble_eq_true rfl) rv_n rfl ?_
            refine g_goto (tgt := 25) B dJ40_split_128 (by decide) ?_
            refine g_fg 13 rfl ?_
            exact ih25 _ (by rw [← hmu25]; simp) (us ++ [y_a27]) vt (los ++ [y_a27]) his none (fup nx y_a27 none) (fup pv y_a27 (none)) (some y_a27) (some y_a27) ch ct wa_12_62 hwa_12_62 (by rw [hcs]; simp) (by rw [List.filter_append, ← hlos]; simp [lob, c54]) (by rw [List.filter_append, ← hhis]; simp [lob, c54]) (by rw [← hnx]; exact ch_congr hVt (fun b hb => by rw [fup_n (fun (e : b = y_a27) => hev (e ▸ hb))])) (by rw [gl_none hlt]; exact ⟨rfl, fup_s _ _ _⟩) (ch_congr hH (fun b hb => by rw [fup_n (fun (e : b = y_a27) => heh (e ▸ hb))])) (pc_snoc hPL hel (fun t ht => by rw [hlt] at ht; exact ht) (fun e => by rw [e] at hlt; first | done | exact hlt.symm)) (pc_congr hPH (fun b hb => by rw [fup_n (fun (e : b = y_a27) => heh (e ▸ hb))])) (gl_snoc) (hct) rfl
      · skip
        have hzv : z ∈ vt := List.mem_of_mem_head? (by rw [← hcn, hnx]; rfl)
        have hzm : z ∈ ns := (hM z).mp (by rw [hcs]; simp [hzv])
        refine (show Go g κ 35 [some (.ref a), some (.ref h), some (.ref tl), some (.int (nI ix)), some (.int (nI bit)), some (.ref a), some (va_rf lh), some (va_rf lt), some (va_rf ch), some (va_rf ct), some (.int (nI los.length)), some (.int (nI his.length)), some (.ref y_a27), none] [.ref z] [[(h, .inr (23, [.null, .null, va_rf otl, .null, .int (nI n), .int (nI md), .int (nI thr), .float lfac]))], [(tl, .inl (g.2.1 6, 2 * bit, .inr (.inr (.inr (.inr tab)))))], l25_2] 12 48 from ?_)
        refine g_castRS (ci := 25) (q := 38) B rfl (rc_in B (ci := 25) rfl (k := 2) rfl ⟨_, TNG.mem hl25_2 hzm⟩) dJ40_split_35 rfl q1662 ?_
        refine g_astore (q := 40) (lv2 := [some (.ref a), some (.ref h), some (.ref tl), some (.int (nI ix)), some (.int (nI bit)), some (.ref a), some (va_rf lh), some (va_rf lt), some (va_rf ch), some (va_rf ct), some (.int (nI los.length)), some (.int (nI his.length)), some (.ref y_a27), some (.ref z)]) B dJ40_split_38 rfl (Nat.le_of_ble_eq_true rfl) (rv_r _) rfl ?_
        refine g_aload (q := 42) B dJ40_split_40 rfl rfl (rv_r _) ?_
        refine g_aconst_null (q := 43) B dJ40_split_42 rfl ?_
        refine g_putTNG5 (q := 46) (k := 2) (x := none) B hl25_2 hem dJ40_split_43 rfl rfl q1690 (Or.inr q1691) (fun wa_14_43 hwa_14_43 => ?_)
        refine (show Go g κ 46 [some (.ref a), some (.ref h), some (.ref tl), some (.int (nI ix)), some (.int (nI bit)), some (.ref a), some (va_rf lh), some (va_rf lt), some (va_rf ch), some (va_rf ct), some (.int (nI los.length)), some (.int (nI his.length)), some (.ref y_a27), some (.ref z)] [] [[(h, .inr (23, [.null, .null, va_rf otl, .null, .int (nI n), .int (nI md), .int (nI thr), .float lfac]))], [(tl, .inl (g.2.1 6, 2 * bit, .inr (.inr (.inr (.inr tab)))))], wa_14_43] 12 48 from ?_)
        refine g_aload (q := 48) B dJ40_split_46 rfl rfl (rv_r _) ?_
        refine g_getSM (v := .int (hs y_a27)) (q := 51) B (ci := 25) (k := 2) (j := 2) in_J40 rfl dJ40_split_48 rfl rfl (TNG.mem hwa_14_43 hem) (Nat.le_of_ble_eq_true rfl) q1677 q1678 rfl ?_
        refine g_iload (q := 53) B dJ40_split_51 rfl rfl ?_
        refine g_iand (v := hs y_a27 &&& nI bit) (q := 54) B dJ40_split_53 rfl rfl ?_
        refine g_if_ne (tgt := 92) (q := 57) B dJ40_split_54 rfl (by decide) (Iff.rfl) (fun c54 => ?_) (fun c54 => ?_)
        · skip
          refine g_aload (q := 94) B dJ40_split_92 rfl rfl (rv_r _) ?_
          refine g_aload (q := 96) B dJ40_split_94 rfl rfl (rv_o _) ?_
          refine g_dup_x1 (q := 97) B dJ40_split_96 rfl (rv_c (rv_o _)) rfl ?_
          refine g_putTNG9 (q := 100) (k := 2) (x := ct) B hwa_14_43 hem dJ40_split_97 rfl rfl q1745 (Or.inl rfl) (fun wa_15_97 hwa_15_97 => ?_)
          refine (show Go g κ 100 [some (.ref a), some (.ref h), some (.ref tl), some (.int (nI ix)), some (.int (nI bit)), some (.ref a), some (va_rf lh), some (va_rf lt), some (va_rf ch), some (va_rf ct), some (.int (nI los.length)), some (.int (nI his.length)), some (.ref y_a27), some (.ref z)] [va_rf ct] [[(h, .inr (23, [.null, .null, va_rf otl, .null, .int (nI n), .int (nI md), .int (nI thr), .float lfac]))], [(tl, .inl (g.2.1 6, 2 * bit, .inr (.inr (.inr (.inr tab)))))], wa_15_97] 12 48 from ?_)
          refine g_ifnonnull_o (tgt := 110) (q := 103) B dJ40_split_100 rfl (by decide) (fun ct_a100 c100 => ?_) (fun c100 => ?_)
          · skip
            subst c100
            have htl : ct_a100 ∈ his := gl_mem hct
            have htn : ct_a100 ∈ ns := hum _ (hhm _ htl).1
            have hte : ct_a100 ≠ y_a27 := fun e => heu (e ▸ (hhm _ htl).1)
            refine g_aload (q := 112) B dJ40_split_110 rfl rfl (rv_r _) ?_
            refine g_aload (q := 114) B dJ40_split_112 rfl rfl (rv_r _) ?_
            refine g_putTNG5 (q := 117) (k := 2) (x := some y_a27) B hwa_15_97 htn dJ40_split_114 rfl rfl q1690 (Or.inr q1691) (fun wa_16_114 hwa_16_114 => ?_)
            refine (show Go g κ 117 [some (.ref a), some (.ref h), some (.ref tl), some (.int (nI ix)), some (.int (nI bit)), some (.ref a), some (va_rf lh), some (va_rf lt), some (va_rf ch), some (.ref ct_a100), some (.int (nI los.length)), some (.int (nI his.length)), some (.ref y_a27), some (.ref z)] [] [[(h, .inr (23, [.null, .null, va_rf otl, .null, .int (nI n), .int (nI md), .int (nI thr), .float lfac]))], [(tl, .inl (g.2.1 6, 2 * bit, .inr (.inr (.inr (.inr tab)))))], wa_16_114] 12 48 from ?_)
            refine g_aload (q := 119) B dJ40_split_117 rfl rfl (rv_r _) ?_
            refine g_astore (q := 121) (lv2 := [some (.ref a), some (.ref h), some (.ref tl), some (.int (nI ix)), some (.int (nI bit)), some (.ref a), some (va_rf lh), some (va_rf lt), some (va_rf ch), some (.ref y_a27), some (.int (nI los.length)), some (.int (nI his.length)), some (.ref y_a27), some (.ref z)]) B dJ40_split_119 rfl (Nat.le_of_ble_eq_true rfl) (rv_r _) (by simp only [lst1, lclr_o]; try rfl) ?_
            refine g_iinc (v := nI ((his ++ [y_a27]).length)) (q := 124) (lv2 := [some (.ref a), some (.ref h), some (.ref tl), some (.int (nI ix)), some (.int (nI bit)), some (.ref a), some (va_rf lh), some (va_rf lt), some (va_rf ch), some (.ref y_a27), some (.int (nI los.length)), some (.int (nI ((his ++ [y_a27]).length))), some (.ref y_a27), some (.ref z)]) B dJ40_split_121 rfl rfl (by rw [List.length_append]; exact nI_add _ 1) (Nat.le_of_ble_eq_true rfl) rfl ?_
            refine g_aload (q := 126) B dJ40_split_124 rfl rfl (rv_r _) ?_
            refine g_astore (q := 128) (lv2 := [some (.ref a), some (.ref h), some (.ref tl), some (.int (nI ix)), some (.int (nI bit)), some (.ref a), some (va_rf lh), some (va_rf lt), some (va_rf ch), some (.ref y_a27), some (.int (nI los.length)), some (.int (nI ((his ++ [y_a27]).length))), some (.ref z), some (.ref z)]) B dJ40_split_126 rfl (Nat.le_of_ble_eq_true rfl) (rv_r _) rfl ?_
            refine g_goto (tgt := 25) B dJ40_split_128 (by decide) ?_
            refine g_fg 13 rfl ?_
            exact ih25 _ (by rw [← hmu25]; simp) (us ++ [y_a27]) vt los (his ++ [y_a27]) (some z) (fup (fup nx y_a27 none) ct_a100 (some y_a27)) (fup pv y_a27 (some ct_a100)) lh lt ch (some y_a27) wa_16_114 hwa_16_114 (by rw [hcs]; simp) (by rw [List.filter_append, ← hlos]; simp [lob, c54]) (by rw [List.filter_append, ← hhis]; simp [lob, c54]) (by rw [← hnx]; exact ch_congr hVt (fun b hb => by rw [fup_n (fun (e : b = ct_a100) => huv _ (hhm _ htl).1 (e ▸ hb)), fup_n (fun (e : b = y_a27) => hev (e ▸ hb))])) (ch_congr hL (fun b hb => by rw [fup_n (fun (e : b = ct_a100) => by have z1 := (hhm _ htl).2; have z2 := (hlm b hb).2; rw [e] at z2; rw [z1] at z2; cases z2), fup_n (fun (e : b = y_a27) => hel (e ▸ hb))])) (ch_snoc hH (by rw [hhis]; exact ((List.nodup_append.mp hN2).1.filter _)) heh hct) (pc_congr hPL (fun b hb => by rw [fup_n (fun (e : b = y_a27) => hel (e ▸ hb))])) (pc_snoc hPH heh (fun t ht => by rw [hct] at ht; exact ht) (fun e => by rw [e] at hct; first | done | exact hct.symm)) (hlt) (gl_snoc) rfl
          · skip
            subst c100
            refine g_aload (q := 105) B dJ40_split_103 rfl rfl (rv_r _) ?_
            refine g_astore (q := 107) (lv2 := [some (.ref a), some (.ref h), some (.ref tl), some (.int (nI ix)), some (.int (nI bit)), some (.ref a), some (va_rf lh), some (va_rf lt), some (.ref y_a27), some (.null), some (.int (nI los.length)), some (.int (nI his.length)), some (.ref y_a27), some (.ref z)]) B dJ40_split_105 rfl (Nat.le_of_ble_eq_true rfl) (rv_r _) (by simp only [lst1, lclr_o]; try rfl) ?_
            refine g_goto (tgt := 117) B dJ40_split_107 (by decide) ?_
            refine g_aload (q := 119) B dJ40_split_117 rfl rfl (rv_r _) ?_
            refine g_astore (q := 121) (lv2 := [some (.ref a), some (.ref h), some (.ref tl), some (.int (nI ix)), some (.int (nI bit)), some (.ref a), some (va_rf lh), some (va_rf lt), some (.ref y_a27), some (.ref y_a27), some (.int (nI los.length)), some (.int (nI his.length)), some (.ref y_a27), some (.ref z)]) B dJ40_split_119 rfl (Nat.le_of_ble_eq_true rfl) (rv_r _) rfl ?_
            refine g_iinc (v := nI ((his ++ [y_a27]).length)) (q := 124) (lv2 := [some (.ref a), some (.ref h), some (.ref tl), some (.int (nI ix)), some (.int (nI bit)), some (.ref a), some (va_rf lh), some (va_rf lt), some (.ref y_a27), some (.ref y_a27), some (.int (nI los.length)), some (.int (nI ((his ++ [y_a27]).length))), some (.ref y_a27), some (.ref z)]) B dJ40_split_121 rfl rfl (by rw [List.length_append]; exact nI_add _ 1) (Nat.le_of_ble_eq_true rfl) rfl ?_
            refine g_aload (q := 126) B dJ40_split_124 rfl rfl (rv_r _) ?_
            refine g_astore (q := 128) (lv2 := [some (.ref a), some (.ref h), some (.ref tl), some (.int (nI ix)), some (.int (nI bit)), some (.ref a), some (va_rf lh), some (va_rf lt), some (.ref y_a27), some (.ref y_a27), some (.int (nI los.length)), some (.int (nI ((his ++ [y_a27]).length))), some (.ref z), some (.ref z)]) B dJ40_split_126 rfl (Nat.le_of_ble_eq_true rfl) (rv_r _) rfl ?_
            refine g_goto (tgt := 25) B dJ40_split_128 (by decide) ?_
            refine g_fg 13 rfl ?_
            exact ih25 _ (by rw [← hmu25]; simp) (us ++ [y_a27]) vt los (his ++ [y_a27]) (some z) (fup nx y_a27 none) (fup pv y_a27 (none)) lh lt (some y_a27) (some y_a27) wa_15_97 hwa_15_97 (by rw [hcs]; simp) (by rw [List.filter_append, ← hlos]; simp [lob, c54]) (by rw [List.filter_append, ← hhis]; simp [lob, c54]) (by rw [← hnx]; exact ch_congr hVt (fun b hb => by rw [fup_n (fun (e : b = y_a27) => hev (e ▸ hb))])) (ch_congr hL (fun b hb => by rw [fup_n (fun (e : b = y_a27) => hel (e ▸ hb))])) (by rw [gl_none hct]; exact ⟨rfl, fup_s _ _ _⟩) (pc_congr hPL (fun b hb => by rw [fup_n (fun (e : b = y_a27) => hel (e ▸ hb))])) (pc_snoc hPH heh (fun t ht => by rw [hct] at ht; exact ht) (fun e => by rw [e] at hct; first | done | exact hct.symm)) (hlt) (gl_snoc) rfl
        · skip
          have c54 := Classical.not_not.mp c54
          refine g_aload (q := 59) B dJ40_split_57 rfl rfl (rv_r _) ?_
          refine g_aload (q := 61) B dJ40_split_59 rfl rfl (rv_o _) ?_
          refine g_dup_x1 (q := 62) B dJ40_split_61 rfl (rv_c (rv_o _)) rfl ?_
          refine g_putTNG9 (q := 65) (k := 2) (x := lt) B hwa_14_43 hem dJ40_split_62 rfl rfl q1745 (Or.inl rfl) (fun wa_17_62 hwa_17_62 => ?_)
          refine (show Go g κ 65 [some (.ref a), some (.ref h), some (.ref tl), some (.int (nI ix)), some (.int (nI bit)), some (.ref a), some (va_rf lh), some (va_rf lt), some (va_rf ch), some (va_rf ct), some (.int (nI los.length)), some (.int (nI his.length)), some (.ref y_a27), some (.ref z)] [va_rf lt] [[(h, .inr (23, [.null, .null, va_rf otl, .null, .int (nI n), .int (nI md), .int (nI thr), .float lfac]))], [(tl, .inl (g.2.1 6, 2 * bit, .inr (.inr (.inr (.inr tab)))))], wa_17_62] 12 48 from ?_)
          refine g_ifnonnull_o (tgt := 75) (q := 68) B dJ40_split_65 rfl (by decide) (fun lt_a65 c65 => ?_) (fun c65 => ?_)
          · skip
            subst c65
            have htl : lt_a65 ∈ los := gl_mem hlt
            have htn : lt_a65 ∈ ns := hum _ (hlm _ htl).1
            have hte : lt_a65 ≠ y_a27 := fun e => heu (e ▸ (hlm _ htl).1)
            refine g_aload (q := 77) B dJ40_split_75 rfl rfl (rv_r _) ?_
            refine g_aload (q := 79) B dJ40_split_77 rfl rfl (rv_r _) ?_
            refine g_putTNG5 (q := 82) (k := 2) (x := some y_a27) B hwa_17_62 htn dJ40_split_79 rfl rfl q1690 (Or.inr q1691) (fun wa_18_79 hwa_18_79 => ?_)
            refine (show Go g κ 82 [some (.ref a), some (.ref h), some (.ref tl), some (.int (nI ix)), some (.int (nI bit)), some (.ref a), some (va_rf lh), some (.ref lt_a65), some (va_rf ch), some (va_rf ct), some (.int (nI los.length)), some (.int (nI his.length)), some (.ref y_a27), some (.ref z)] [] [[(h, .inr (23, [.null, .null, va_rf otl, .null, .int (nI n), .int (nI md), .int (nI thr), .float lfac]))], [(tl, .inl (g.2.1 6, 2 * bit, .inr (.inr (.inr (.inr tab)))))], wa_18_79] 12 48 from ?_)
            refine g_aload (q := 84) B dJ40_split_82 rfl rfl (rv_r _) ?_
            refine g_astore (q := 86) (lv2 := [some (.ref a), some (.ref h), some (.ref tl), some (.int (nI ix)), some (.int (nI bit)), some (.ref a), some (va_rf lh), some (.ref y_a27), some (va_rf ch), some (va_rf ct), some (.int (nI los.length)), some (.int (nI his.length)), some (.ref y_a27), some (.ref z)]) B dJ40_split_84 rfl (Nat.le_of_ble_eq_true rfl) (rv_r _) (by simp only [lst1, lclr_o]; try rfl) ?_
            refine g_iinc (v := nI ((los ++ [y_a27]).length)) (q := 89) (lv2 := [some (.ref a), some (.ref h), some (.ref tl), some (.int (nI ix)), some (.int (nI bit)), some (.ref a), some (va_rf lh), some (.ref y_a27), some (va_rf ch), some (va_rf ct), some (.int (nI ((los ++ [y_a27]).length))), some (.int (nI his.length)), some (.ref y_a27), some (.ref z)]) B dJ40_split_86 rfl rfl (by rw [List.length_append]; exact nI_add _ 1) (Nat.le_of_ble_eq_true rfl) (by simp only [lst1, lclr_o]; try rfl) ?_
            refine g_goto (tgt := 124) B dJ40_split_89 (by decide) ?_
            refine g_aload (q := 126) B dJ40_split_124 rfl rfl (rv_r _) ?_
            refine g_astore (q := 128) (lv2 := [some (.ref a), some (.ref h), some (.ref tl), some (.int (nI ix)), some (.int (nI bit)), some (.ref a), some (va_rf lh), some (.ref y_a27), some (va_rf ch), some (va_rf ct), some (.int (nI ((los ++ [y_a27]).length))), some (.int (nI his.length)), some (.ref z), some (.ref z)]) B dJ40_split_126 rfl (Nat.le_of_ble_eq_true rfl) (rv_r _) rfl ?_
            refine g_goto (tgt := 25) B dJ40_split_128 (by decide) ?_
            refine g_fg 13 rfl ?_
            exact ih25 _ (by rw [← hmu25]; simp) (us ++ [y_a27]) vt (los ++ [y_a27]) his (some z) (fup (fup nx y_a27 none) lt_a65 (some y_a27)) (fup pv y_a27 (some lt_a65)) lh (some y_a27) ch ct wa_18_79 hwa_18_79 (by rw [hcs]; simp) (by rw [List.filter_append, ← hlos]; simp [lob, c54]) (by rw [List.filter_append, ← hhis]; simp [lob, c54]) (by rw [← hnx]; exact ch_congr hVt (fun b hb => by rw [fup_n (fun (e : b = lt_a65) => huv _ (hlm _ htl).1 (e ▸ hb)), fup_n (fun (e : b = y_a27) => hev (e ▸ hb))])) (ch_snoc hL (by rw [hlos]; exact ((List.nodup_append.mp hN2).1.filter _)) hel hlt) (ch_congr hH (fun b hb => by rw [fup_n (fun (e : b = lt_a65) => by have z1 := (hlm _ htl).2; have z2 := (hhm b hb).2; rw [e] at z2; rw [z1] at z2; cases z2), fup_n (fun (e : b = y_a27) => heh (e ▸ hb))])) (pc_snoc hPL hel (fun t ht => by rw [hlt] at ht; exact ht) (fun e => by rw [e] at hlt; first | done | exact hlt.symm)) (pc_congr hPH (fun b hb => by rw [fup_n (fun (e : b = y_a27) => heh (e ▸ hb))])) (gl_snoc) (hct) rfl
          · skip
            subst c65
            refine g_aload (q := 70) B dJ40_split_68 rfl rfl (rv_r _) ?_
            refine g_astore (q := 72) (lv2 := [some (.ref a), some (.ref h), some (.ref tl), some (.int (nI ix)), some (.int (nI bit)), some (.ref a), some (.ref y_a27), some (.null), some (va_rf ch), some (va_rf ct), some (.int (nI los.length)), some (.int (nI his.length)), some (.ref y_a27), some (.ref z)]) B dJ40_split_70 rfl (Nat.le_of_ble_eq_true rfl) (rv_r _) rfl ?_
            refine g_goto (tgt := 82) B dJ40_split_72 (by decide) ?_
            refine g_aload (q := 84) B dJ40_split_82 rfl rfl (rv_r _) ?_
            refine g_astore (q := 86) (lv2 := [some (.ref a), some (.ref h), some (.ref tl), some (.int (nI ix)), some (.int (nI bit)), some (.ref a), some (.ref y_a27), some (.ref y_a27), some (va_rf ch), some (va_rf ct), some (.int (nI los.length)), some (.int (nI his.length)), some (.ref y_a27), some (.ref z)]) B dJ40_split_84 rfl (Nat.le_of_ble_eq_true rfl) (rv_r _) rfl ?_
            refine g_iinc (v := nI ((los ++ [y_a27]).length)) (q := 89) (lv2 := [some (.ref a), some (.ref h), some (.ref tl), some (.int (nI ix)), some (.int (nI bit)), some (.ref a), some (.ref y_a27), some (.ref y_a27), some (va_rf ch), some (va_rf ct), some (.int (nI ((los ++ [y_a27]).length))), some (.int (nI his.length)), some (.ref y_a27), some (.ref z)]) B dJ40_split_86 rfl rfl (by rw [List.length_append]; exact nI_add _ 1) (Nat.le_of_ble_eq_true rfl) (by simp only [lst1, lclr_o]; try rfl) ?_
            refine g_goto (tgt := 124) B dJ40_split_89 (by decide) ?_
            refine g_aload (q := 126) B dJ40_split_124 rfl rfl (rv_r _) ?_
            refine g_astore (q := 128) (lv2 := [some (.ref a), some (.ref h), some (.ref tl), some (.int (nI ix)), some (.int (nI bit)), some (.ref a), some (.ref y_a27), some (.ref y_a27), some (va_rf ch), some (va_rf ct), some (.int (nI ((los ++ [y_a27]).length))), some (.int (nI his.length)), some (.ref z), some (.ref z)]) B dJ40_split_126 rfl (Nat.le_of_ble_eq_true rfl) (rv_r _) rfl ?_
            refine g_goto (tgt := 25) B dJ40_split_128 (by decide) ?_
            refine g_fg 13 rfl ?_
            exact ih25 _ (by rw [← hmu25]; simp) (us ++ [y_a27]) vt (los ++ [y_a27]) his (some z) (fup nx y_a27 none) (fup pv y_a27 (none)) (some y_a27) (some y_a27) ch ct wa_17_62 hwa_17_62 (by rw [hcs]; simp) (by rw [List.filter_append, ← hlos]; simp [lob, c54]) (by rw [List.filter_append, ← hhis]; simp [lob, c54]) (by rw [← hnx]; exact ch_congr hVt (fun b hb => by rw [fup_n (fun (e : b = y_a27) => hev (e ▸ hb))])) (by rw [gl_none hlt]; exact ⟨rfl, fup_s _ _ _⟩) (ch_congr hH (fun b hb => by rw [fup_n (fun (e : b = y_a27) => heh (e ▸ hb))])) (pc_snoc hPL hel (fun t ht => by rw [hlt] at ht; exact ht) (fun e => by rw [e] at hlt; first | done | exact hlt.symm)) (pc_congr hPH (fun b hb => by rw [fup_n (fun (e : b = y_a27) => heh (e ▸ hb))])) (gl_snoc) (hct) rfl
  exact lp25 _ ([] : List Nat) cs ([] : List Nat) ([] : List Nat) (some a) nx pv none none none none w2 hw2 (rfl) (rfl) (rfl) (hC) (rfl) (rfl) (trivial) (trivial) (rfl) (rfl) rfl
