set_option maxRecDepth 100000
/-! ===== KeygroveModel: its things ===== -/
def bI (b : Bool) : Int32 := nI (if b = true then 1 else 0)
theorem upd_bI {f : Nat → Int32} {F : Nat → Bool} {n : Nat} (h : ∀ i, i < n → f i = bI (F i)) (k : Nat) (b : Bool) : ∀ i, i < n → upd f k (vp_nar .boolean (bI b)) i = bI (fup F k b i) := by
  intro i hi
  have e : vp_nar .boolean (bI b) = bI b := by cases b <;> decide
  rw [e]
  unfold upd fup
  split
  · rfl
  · exact h i hi
/-- a package: person, first, second, used, gone -/
abbrev MkS : Type := Nat × Nat × Nat × Bool × Bool
/-- a proposal: kind, person, what -/
abbrev MrS : Type := Nat × Nat × Nat
/-- an epoch: number, tree, goes, key, chains, the way, who was removed, packages by leaves -/
abbrev MeS : Type := Nat × TrS × Nat × Nat × (Nat → Option Nat) × (Nat → Bool) × (Nat → Bool) × (Nat → Option Nat)
/-- a chain: secret, place, places and keys that are left -/
abbrev McS : Type := Nat × Nat × List (Nat × Nat)
/-- a person: epoch, leaf, its secret, renewal, nodes, chains, ever held -/
abbrev MpS : Type := Option Nat × Nat × Nat × Option Nat × (Nat → Option Nat) × (Nat → Option McS) × List Nat
/-- a message: epoch, leaf, place, key, text -/
abbrev MmS : Type := Nat × Nat × Nat × Nat × Nat
abbrev eNo (r : MeS) : Nat := r.1
abbrev eTr (r : MeS) : TrS := r.2.1
abbrev eGo (r : MeS) : Nat := r.2.2.1
abbrev eKy (r : MeS) : Nat := r.2.2.2.1
abbrev eCh (r : MeS) : Nat → Option Nat := r.2.2.2.2.1
abbrev eWy (r : MeS) : Nat → Bool := r.2.2.2.2.2.1
abbrev eRm (r : MeS) : Nat → Bool := r.2.2.2.2.2.2.1
abbrev ePk (r : MeS) : Nat → Option Nat := r.2.2.2.2.2.2.2
abbrev mEp (r : MpS) : Option Nat := r.1
abbrev mLf (r : MpS) : Nat := r.2.1
abbrev mLs (r : MpS) : Nat := r.2.2.1
abbrev mRn (r : MpS) : Option Nat := r.2.2.2.1
abbrev mNd (r : MpS) : Nat → Option Nat := r.2.2.2.2.1
abbrev mCh (r : MpS) : Nat → Option McS := r.2.2.2.2.2.1
abbrev mEv (r : MpS) : List Nat := r.2.2.2.2.2.2
def SeB (r : Sec) : Prop := (∀ n, r.2.1 = some n → n < 1000) ∧ (∀ n, r.2.2.1 = some n → n < 1000) ∧ r.2.2.2 < 1000
def MkB (r : MkS) : Prop := r.1 < 16 ∧ r.2.1 < 1000 ∧ r.2.2.1 < 1000
def McB (r : McS) : Prop := r.1 < 1000 ∧ r.2.1 < 100 ∧ r.2.2.length ≤ 40 ∧ ∀ p ∈ r.2.2, p.1 < 100 ∧ p.2 < 1000
def MeB (r : MeS) : Prop := eNo r < 100 ∧ TrB (eTr r) ∧ eGo r < 1000 ∧ eKy r < 1000 ∧ (∀ i n, eCh r i = some n → n < 1000) ∧ ∀ i n, ePk r i = some n → n < 100
def MpB (r : MpS) : Prop := (∀ n, mEp r = some n → n < 100) ∧ mLf r < 16 ∧ mLs r < 1000 ∧ (∀ n, mRn r = some n → n < 1000) ∧ (∀ i n, mNd r i = some n → n < 1000) ∧ (∀ i c, mCh r i = some c → i < 16 ∧ McB c) ∧ (mEv r).length ≤ 1000 ∧ ∀ x ∈ mEv r, x < 1000
def SecP (g : Gv) (a : Nat) (r : Sec) (w : va_W) : Prop := (SeB r) ∧ w = ([[(a, .inr (14, [.int r.1, .int (oI r.2.1), .int (oI r.2.2.1), .int (nI r.2.2.2)]))]] : List va_W).flatten
theorem SecP.hm {g : Gv} {a : Nat} {r : Sec} {w : va_W} (h : SecP g a r w) : ∃ fs, (a, .inr (14, fs)) ∈ w := by
  obtain ⟨hS, rfl⟩ := h
  exact ⟨_, List.mem_cons_self⟩
theorem SecP.vd {g : Gv} {a : Nat} {r : Sec} {w : va_W} (h : SecP g a r w) : Vd g a w := by
  obtain ⟨fs, h⟩ := SecP.hm h
  exact Or.inl ⟨14, fs, by decide, h⟩
theorem SecP.at {g : Gv} {a : Nat} {r : Sec} {W : va_W} (h : Sub (SecP g a r) W) : (SeB r) ∧ (a, .inr (14, [.int r.1, .int (oI r.2.1), .int (oI r.2.2.1), .int (nI r.2.2.2)])) ∈ W := by
  obtain ⟨w, R, hp, h⟩ := h
  obtain ⟨hS, rfl⟩ := h
  exact ⟨hS, sub_c hp 0 rfl⟩
theorem ct_add_SecL (g : Gv) (J : Jd g) {p : Nat} {rs : List Sec} {cap : Nat} {a : Nat} {r : Sec} {mc : Nat} {ms : Nat} {w0 : va_W} {w1 : va_W} (hw0 : LhP g (SecP g) p rs cap w0) (hw1 : SecP g a r w1) (hcap : cap < 8388608) (hm : rs.length = cap → 1 ≤ mc ∧ growN cap ≤ ms) : Ct g yJ2_add (ws_ yJ2_add cJ2_add 2 (some .boolean)) 6 mc ms [.ref p, .ref a] [w0, w1] (fun (rv_ : Option Value) (rL_ : List va_W) => ∃ (u0 : va_W), rv_ = some (.int (nI 1)) ∧ rL_ = [u0] ∧ LhP g (SecP g) p (rs ++ [r]) (if rs.length = cap then growN cap else cap) u0) noX := LhP.push hw0 (fun _ _ _ z => SecP.vd z) J hw1 hcap hm
def BbP (g : Gv) (a : Nat) (r : Nat × Nat) (w : va_W) : Prop := w = ([[(a, .inr (19, [.int (nI r.1), .int (nI r.2)]))]] : List va_W).flatten
theorem BbP.hm {g : Gv} {a : Nat} {r : Nat × Nat} {w : va_W} (h : BbP g a r w) : ∃ fs, (a, .inr (19, fs)) ∈ w := by
  obtain rfl := h
  exact ⟨_, List.mem_cons_self⟩
theorem BbP.vd {g : Gv} {a : Nat} {r : Nat × Nat} {w : va_W} (h : BbP g a r w) : Vd g a w := by
  obtain ⟨fs, h⟩ := BbP.hm h
  exact Or.inl ⟨19, fs, by decide, h⟩
theorem BbP.at {g : Gv} {a : Nat} {r : Nat × Nat} {W : va_W} (h : Sub (BbP g a r) W) : (a, .inr (19, [.int (nI r.1), .int (nI r.2)])) ∈ W := by
  obtain ⟨w, R, hp, h⟩ := h
  obtain rfl := h
  exact sub_c hp 0 rfl
theorem ct_add_BbL (g : Gv) (J : Jd g) {p : Nat} {rs : List (Nat × Nat)} {cap : Nat} {a : Nat} {r : Nat × Nat} {mc : Nat} {ms : Nat} {w0 : va_W} {w1 : va_W} (hw0 : LhP g (BbP g) p rs cap w0) (hw1 : BbP g a r w1) (hcap : cap < 8388608) (hm : rs.length = cap → 1 ≤ mc ∧ growN cap ≤ ms) : Ct g yJ2_add (ws_ yJ2_add cJ2_add 2 (some .boolean)) 6 mc ms [.ref p, .ref a] [w0, w1] (fun (rv_ : Option Value) (rL_ : List va_W) => ∃ (u0 : va_W), rv_ = some (.int (nI 1)) ∧ rL_ = [u0] ∧ LhP g (BbP g) p (rs ++ [r]) (if rs.length = cap then growN cap else cap) u0) noX := LhP.push hw0 (fun _ _ _ z => BbP.vd z) J hw1 hcap hm
def MqP (g : Gv) (a : Nat) (r : MkS) (w : va_W) : Prop := (MkB r) ∧ w = ([[(a, .inr (15, [.int (nI r.1), .int (nI r.2.1), .int (nI r.2.2.1), .int (nI (if r.2.2.2.1 = true then 1 else 0)), .int (nI (if r.2.2.2.2 = true then 1 else 0))]))]] : List va_W).flatten
theorem MqP.hm {g : Gv} {a : Nat} {r : MkS} {w : va_W} (h : MqP g a r w) : ∃ fs, (a, .inr (15, fs)) ∈ w := by
  obtain ⟨hK, rfl⟩ := h
  exact ⟨_, List.mem_cons_self⟩
theorem MqP.vd {g : Gv} {a : Nat} {r : MkS} {w : va_W} (h : MqP g a r w) : Vd g a w := by
  obtain ⟨fs, h⟩ := MqP.hm h
  exact Or.inl ⟨15, fs, by decide, h⟩
theorem MqP.at {g : Gv} {a : Nat} {r : MkS} {W : va_W} (h : Sub (MqP g a r) W) : (MkB r) ∧ (a, .inr (15, [.int (nI r.1), .int (nI r.2.1), .int (nI r.2.2.1), .int (nI (if r.2.2.2.1 = true then 1 else 0)), .int (nI (if r.2.2.2.2 = true then 1 else 0))])) ∈ W := by
  obtain ⟨w, R, hp, h⟩ := h
  obtain ⟨hK, rfl⟩ := h
  exact ⟨hK, sub_c hp 0 rfl⟩
theorem ct_add_MkL (g : Gv) (J : Jd g) {p : Nat} {ps : List Nat} {rs : List MkS} {cap : Nat} {a : Nat} {r : MkS} {mc : Nat} {ms : Nat} {w0 : va_W} {w1 : va_W} (hw0 : LoP g (MqP g) p ps rs cap w0) (hw1 : MqP g a r w1) (hcap : cap < 8388608) (hm : ps.length = cap → 1 ≤ mc ∧ growN cap ≤ ms) : Ct g yJ2_add (ws_ yJ2_add cJ2_add 2 (some .boolean)) 6 mc ms [.ref p, .ref a] [w0, w1] (fun (rv_ : Option Value) (rL_ : List va_W) => ∃ (u0 : va_W), rv_ = some (.int (nI 1)) ∧ rL_ = [u0] ∧ LoP g (MqP g) p (ps ++ [a]) (rs ++ [r]) (if ps.length = cap then growN cap else cap) u0) noX := LoP.push hw0 (fun _ _ _ z => MqP.vd z) J hw1 hcap hm
def MrP (g : Gv) (a : Nat) (r : MrS) (w : va_W) : Prop := w = ([[(a, .inr (18, [.int (nI r.1), .int (nI r.2.1), .int (nI r.2.2)]))]] : List va_W).flatten
theorem MrP.hm {g : Gv} {a : Nat} {r : MrS} {w : va_W} (h : MrP g a r w) : ∃ fs, (a, .inr (18, fs)) ∈ w := by
  obtain rfl := h
  exact ⟨_, List.mem_cons_self⟩
theorem MrP.vd {g : Gv} {a : Nat} {r : MrS} {w : va_W} (h : MrP g a r w) : Vd g a w := by
  obtain ⟨fs, h⟩ := MrP.hm h
  exact Or.inl ⟨18, fs, by decide, h⟩
theorem MrP.at {g : Gv} {a : Nat} {r : MrS} {W : va_W} (h : Sub (MrP g a r) W) : (a, .inr (18, [.int (nI r.1), .int (nI r.2.1), .int (nI r.2.2)])) ∈ W := by
  obtain ⟨w, R, hp, h⟩ := h
  obtain rfl := h
  exact sub_c hp 0 rfl
theorem ct_add_MrL (g : Gv) (J : Jd g) {p : Nat} {rs : List MrS} {cap : Nat} {a : Nat} {r : MrS} {mc : Nat} {ms : Nat} {w0 : va_W} {w1 : va_W} (hw0 : LhP g (MrP g) p rs cap w0) (hw1 : MrP g a r w1) (hcap : cap < 8388608) (hm : rs.length = cap → 1 ≤ mc ∧ growN cap ≤ ms) : Ct g yJ2_add (ws_ yJ2_add cJ2_add 2 (some .boolean)) 6 mc ms [.ref p, .ref a] [w0, w1] (fun (rv_ : Option Value) (rL_ : List va_W) => ∃ (u0 : va_W), rv_ = some (.int (nI 1)) ∧ rL_ = [u0] ∧ LhP g (MrP g) p (rs ++ [r]) (if rs.length = cap then growN cap else cap) u0) noX := LhP.push hw0 (fun _ _ _ z => MrP.vd z) J hw1 hcap hm
def MmP (g : Gv) (a : Nat) (r : MmS) (w : va_W) : Prop := w = ([[(a, .inr (20, [.int (nI r.1), .int (nI r.2.1), .int (nI r.2.2.1), .int (nI r.2.2.2.1), .int (nI r.2.2.2.2)]))]] : List va_W).flatten
theorem MmP.hm {g : Gv} {a : Nat} {r : MmS} {w : va_W} (h : MmP g a r w) : ∃ fs, (a, .inr (20, fs)) ∈ w := by
  obtain rfl := h
  exact ⟨_, List.mem_cons_self⟩
theorem MmP.vd {g : Gv} {a : Nat} {r : MmS} {w : va_W} (h : MmP g a r w) : Vd g a w := by
  obtain ⟨fs, h⟩ := MmP.hm h
  exact Or.inl ⟨20, fs, by decide, h⟩
theorem MmP.at {g : Gv} {a : Nat} {r : MmS} {W : va_W} (h : Sub (MmP g a r) W) : (a, .inr (20, [.int (nI r.1), .int (nI r.2.1), .int (nI r.2.2.1), .int (nI r.2.2.2.1), .int (nI r.2.2.2.2)])) ∈ W := by
  obtain ⟨w, R, hp, h⟩ := h
  obtain rfl := h
  exact sub_c hp 0 rfl
theorem ct_add_MmL (g : Gv) (J : Jd g) {p : Nat} {rs : List MmS} {cap : Nat} {a : Nat} {r : MmS} {mc : Nat} {ms : Nat} {w0 : va_W} {w1 : va_W} (hw0 : LhP g (MmP g) p rs cap w0) (hw1 : MmP g a r w1) (hcap : cap < 8388608) (hm : rs.length = cap → 1 ≤ mc ∧ growN cap ≤ ms) : Ct g yJ2_add (ws_ yJ2_add cJ2_add 2 (some .boolean)) 6 mc ms [.ref p, .ref a] [w0, w1] (fun (rv_ : Option Value) (rL_ : List va_W) => ∃ (u0 : va_W), rv_ = some (.int (nI 1)) ∧ rL_ = [u0] ∧ LhP g (MmP g) p (rs ++ [r]) (if rs.length = cap then growN cap else cap) u0) noX := LhP.push hw0 (fun _ _ _ z => MmP.vd z) J hw1 hcap hm
def McP (g : Gv) (a : Nat) (r : McS) (w : va_W) : Prop := ∃ (pl : Nat) (ky : Nat) (cp : Nat) (ck : Nat) (v0 : va_W) (v1 : va_W), (McB r) ∧ (cp ≤ 60 ∧ ck ≤ 60) ∧ LhP g (BxE g) pl (r.2.2.map (·.1)) cp v0 ∧ LhP g (BxE g) ky (r.2.2.map (·.2)) ck v1 ∧ w = ([[(a, .inr (17, [.int (nI r.1), .int (nI r.2.1), .ref pl, .ref ky]))], v0, v1] : List va_W).flatten
theorem McP.hm {g : Gv} {a : Nat} {r : McS} {w : va_W} (h : McP g a r w) : ∃ fs, (a, .inr (17, fs)) ∈ w := by
  obtain ⟨pl, ky, cp, ck, v0, v1, hC, hcc, hv0, hv1, rfl⟩ := h
  exact ⟨_, List.mem_cons_self⟩
theorem McP.vd {g : Gv} {a : Nat} {r : McS} {w : va_W} (h : McP g a r w) : Vd g a w := by
  obtain ⟨fs, h⟩ := McP.hm h
  exact Or.inl ⟨17, fs, by decide, h⟩
theorem McP.at {g : Gv} {a : Nat} {r : McS} {W : va_W} (h : Sub (McP g a r) W) : ∃ (pl : Nat) (ky : Nat) (cp : Nat) (ck : Nat), (McB r) ∧ (cp ≤ 60 ∧ ck ≤ 60) ∧ (a, .inr (17, [.int (nI r.1), .int (nI r.2.1), .ref pl, .ref ky])) ∈ W ∧ Sub (LhP g (BxE g) pl (r.2.2.map (·.1)) cp) W ∧ Sub (LhP g (BxE g) ky (r.2.2.map (·.2)) ck) W := by
  obtain ⟨w, R, hp, h⟩ := h
  obtain ⟨pl, ky, cp, ck, v0, v1, hC, hcc, hv0, hv1, rfl⟩ := h
  exact ⟨pl, ky, cp, ck, hC, hcc, sub_c hp 0 rfl, Sub.in hp rfl 1 rfl hv0, Sub.in hp rfl 2 rfl hv1⟩
def EpP (g : Gv) (a : Nat) (r : MeS) (w : va_W) : Prop := ∃ (ap : Nat) (an : Nat) (al : Nat) (ac : Nat) (aw : Nat) (am : Nat) (ak : Nat) (fp : Nat → Int32) (fn : Nat → Int32) (fl : Nat → Int32) (fc : Nat → Int32) (fw : Nat → Int32) (fm : Nat → Int32) (fk : Nat → Int32), (MeB r) ∧ (∀ i, i < 16 → fp i = oI ((eTr r).2.2.2 i)) ∧ (∀ i, i < 31 → fn i = oI ((eTr r).2.1 i)) ∧ (∀ i, i < 31 → fl i = nI ((eTr r).2.2.1 i)) ∧ (∀ i, i < 16 → fc i = oI (eCh r i)) ∧ (∀ i, i < 31 → fw i = bI (eWy r i)) ∧ (∀ i, i < 16 → fm i = bI (eRm r i)) ∧ (∀ i, i < 16 → fk i = oI (ePk r i)) ∧ w = ([[(a, .inr (16, [.int (nI (eNo r)), .int (nI (2 ^ (eTr r).1)), .int (nI (eGo r)), .int (nI (eKy r)), .ref ap, .ref an, .ref al, .ref ac, .ref aw, .ref am, .ref ak]))], [(ap, .inl (g.2.1 0, 16, .inl fp))], [(an, .inl (g.2.1 0, 31, .inl fn))], [(al, .inl (g.2.1 0, 31, .inl fl))], [(ac, .inl (g.2.1 0, 16, .inl fc))], [(aw, .inl (g.2.1 4, 31, .inl fw))], [(am, .inl (g.2.1 4, 16, .inl fm))], [(ak, .inl (g.2.1 0, 16, .inl fk))]] : List va_W).flatten
theorem EpP.hm {g : Gv} {a : Nat} {r : MeS} {w : va_W} (h : EpP g a r w) : ∃ fs, (a, .inr (16, fs)) ∈ w := by
  obtain ⟨ap, an, al, ac, aw, am, ak, fp, fn, fl, fc, fw, fm, fk, hE, hfp, hfn, hfl, hfc, hfw, hfm, hfk, rfl⟩ := h
  exact ⟨_, List.mem_cons_self⟩
theorem EpP.vd {g : Gv} {a : Nat} {r : MeS} {w : va_W} (h : EpP g a r w) : Vd g a w := by
  obtain ⟨fs, h⟩ := EpP.hm h
  exact Or.inl ⟨16, fs, by decide, h⟩
theorem EpP.at {g : Gv} {a : Nat} {r : MeS} {W : va_W} (h : Sub (EpP g a r) W) : ∃ (ap : Nat) (an : Nat) (al : Nat) (ac : Nat) (aw : Nat) (am : Nat) (ak : Nat) (fp : Nat → Int32) (fn : Nat → Int32) (fl : Nat → Int32) (fc : Nat → Int32) (fw : Nat → Int32) (fm : Nat → Int32) (fk : Nat → Int32), (MeB r) ∧ (∀ i, i < 16 → fp i = oI ((eTr r).2.2.2 i)) ∧ (∀ i, i < 31 → fn i = oI ((eTr r).2.1 i)) ∧ (∀ i, i < 31 → fl i = nI ((eTr r).2.2.1 i)) ∧ (∀ i, i < 16 → fc i = oI (eCh r i)) ∧ (∀ i, i < 31 → fw i = bI (eWy r i)) ∧ (∀ i, i < 16 → fm i = bI (eRm r i)) ∧ (∀ i, i < 16 → fk i = oI (ePk r i)) ∧ (a, .inr (16, [.int (nI (eNo r)), .int (nI (2 ^ (eTr r).1)), .int (nI (eGo r)), .int (nI (eKy r)), .ref ap, .ref an, .ref al, .ref ac, .ref aw, .ref am, .ref ak])) ∈ W ∧ (ap, .inl (g.2.1 0, 16, .inl fp)) ∈ W ∧ (an, .inl (g.2.1 0, 31, .inl fn)) ∈ W ∧ (al, .inl (g.2.1 0, 31, .inl fl)) ∈ W ∧ (ac, .inl (g.2.1 0, 16, .inl fc)) ∈ W ∧ (aw, .inl (g.2.1 4, 31, .inl fw)) ∈ W ∧ (am, .inl (g.2.1 4, 16, .inl fm)) ∈ W ∧ (ak, .inl (g.2.1 0, 16, .inl fk)) ∈ W := by
  obtain ⟨w, R, hp, h⟩ := h
  obtain ⟨ap, an, al, ac, aw, am, ak, fp, fn, fl, fc, fw, fm, fk, hE, hfp, hfn, hfl, hfc, hfw, hfm, hfk, rfl⟩ := h
  exact ⟨ap, an, al, ac, aw, am, ak, fp, fn, fl, fc, fw, fm, fk, hE, hfp, hfn, hfl, hfc, hfw, hfm, hfk, sub_c hp 0 rfl, sub_c hp 1 rfl, sub_c hp 2 rfl, sub_c hp 3 rfl, sub_c hp 4 rfl, sub_c hp 5 rfl, sub_c hp 6 rfl, sub_c hp 7 rfl⟩
theorem ct_add_EpL (g : Gv) (J : Jd g) {p : Nat} {rs : List MeS} {cap : Nat} {a : Nat} {r : MeS} {mc : Nat} {ms : Nat} {w0 : va_W} {w1 : va_W} (hw0 : LhP g (EpP g) p rs cap w0) (hw1 : EpP g a r w1) (hcap : cap < 8388608) (hm : rs.length = cap → 1 ≤ mc ∧ growN cap ≤ ms) : Ct g yJ2_add (ws_ yJ2_add cJ2_add 2 (some .boolean)) 6 mc ms [.ref p, .ref a] [w0, w1] (fun (rv_ : Option Value) (rL_ : List va_W) => ∃ (u0 : va_W), rv_ = some (.int (nI 1)) ∧ rL_ = [u0] ∧ LhP g (EpP g) p (rs ++ [r]) (if rs.length = cap then growN cap else cap) u0) noX := LhP.push hw0 (fun _ _ _ z => EpP.vd z) J hw1 hcap hm
def MpP (g : Gv) (a : Nat) (r : MpS) (w : va_W) : Prop := ∃ (nd : Nat) (ch : Nat) (ev : Nat) (cv : Nat) (fn : Nat → Int32) (fc : Nat → Option Nat) (v0 : va_W) (v1 : va_W), (MpB r) ∧ (∀ i, i < 31 → fn i = oI (mNd r i)) ∧ (∀ i, 16 ≤ i → fc i = none ∧ mCh r i = none) ∧ (cv = capF (mEv r).length) ∧ BgM (McP g) fc (mCh r) v0 ∧ LhP g (BxE g) ev (mEv r) cv v1 ∧ w = ([[(a, .inr (13, [.int (oI (mEp r)), .int (nI (mLf r)), .int (nI (mLs r)), .int (oI (mRn r)), .ref nd, .ref ch, .ref ev]))], [(nd, .inl (g.2.1 0, 31, .inl fn))], [(ch, .inl (g.2.1 5, 16, .inr (.inr (.inr (.inr fc)))))], v0, v1] : List va_W).flatten
theorem MpP.hm {g : Gv} {a : Nat} {r : MpS} {w : va_W} (h : MpP g a r w) : ∃ fs, (a, .inr (13, fs)) ∈ w := by
  obtain ⟨nd, ch, ev, cv, fn, fc, v0, v1, hM, hfn, hoc, hcv, hv0, hv1, rfl⟩ := h
  exact ⟨_, List.mem_cons_self⟩
theorem MpP.vd {g : Gv} {a : Nat} {r : MpS} {w : va_W} (h : MpP g a r w) : Vd g a w := by
  obtain ⟨fs, h⟩ := MpP.hm h
  exact Or.inl ⟨13, fs, by decide, h⟩
theorem MpP.at {g : Gv} {a : Nat} {r : MpS} {W : va_W} (h : Sub (MpP g a r) W) : ∃ (nd : Nat) (ch : Nat) (ev : Nat) (cv : Nat) (fn : Nat → Int32) (fc : Nat → Option Nat), (MpB r) ∧ (∀ i, i < 31 → fn i = oI (mNd r i)) ∧ (∀ i, 16 ≤ i → fc i = none ∧ mCh r i = none) ∧ (cv = capF (mEv r).length) ∧ (a, .inr (13, [.int (oI (mEp r)), .int (nI (mLf r)), .int (nI (mLs r)), .int (oI (mRn r)), .ref nd, .ref ch, .ref ev])) ∈ W ∧ (nd, .inl (g.2.1 0, 31, .inl fn)) ∈ W ∧ (ch, .inl (g.2.1 5, 16, .inr (.inr (.inr (.inr fc))))) ∈ W ∧ Sub (BgM (McP g) fc (mCh r)) W ∧ Sub (LhP g (BxE g) ev (mEv r) cv) W := by
  obtain ⟨w, R, hp, h⟩ := h
  obtain ⟨nd, ch, ev, cv, fn, fc, v0, v1, hM, hfn, hoc, hcv, hv0, hv1, rfl⟩ := h
  exact ⟨nd, ch, ev, cv, fn, fc, hM, hfn, hoc, hcv, sub_c hp 0 rfl, sub_c hp 1 rfl, sub_c hp 2 rfl, Sub.in hp rfl 3 rfl hv0, Sub.in hp rfl 4 rfl hv1⟩
theorem ct_add_MpL (g : Gv) (J : Jd g) {p : Nat} {ps : List Nat} {rs : List MpS} {cap : Nat} {a : Nat} {r : MpS} {mc : Nat} {ms : Nat} {w0 : va_W} {w1 : va_W} (hw0 : LoP g (MpP g) p ps rs cap w0) (hw1 : MpP g a r w1) (hcap : cap < 8388608) (hm : ps.length = cap → 1 ≤ mc ∧ growN cap ≤ ms) : Ct g yJ2_add (ws_ yJ2_add cJ2_add 2 (some .boolean)) 6 mc ms [.ref p, .ref a] [w0, w1] (fun (rv_ : Option Value) (rL_ : List va_W) => ∃ (u0 : va_W), rv_ = some (.int (nI 1)) ∧ rL_ = [u0] ∧ LoP g (MpP g) p (ps ++ [a]) (rs ++ [r]) (if ps.length = cap then growN cap else cap) u0) noX := LoP.push hw0 (fun _ _ _ z => MpP.vd z) J hw1 hcap hm
/-- KeygroveModel: secrets, boxes sent, packages, persons, proposals, epochs, messages, stolen, thrown, z, number of boxes, of commits -/
abbrev MdS : Type := List Sec × List (Nat × Nat) × List MkS × List MpS × List MrS × List MeS × List MmS × List Nat × Nat × Int32 × Nat × Nat
abbrev dSs (D : MdS) : List Sec := D.1
abbrev dBx (D : MdS) : List (Nat × Nat) := D.2.1
abbrev dKs (D : MdS) : List MkS := D.2.2.1
abbrev dPs (D : MdS) : List MpS := D.2.2.2.1
abbrev dRs (D : MdS) : List MrS := D.2.2.2.2.1
abbrev dEs (D : MdS) : List MeS := D.2.2.2.2.2.1
abbrev dMs (D : MdS) : List MmS := D.2.2.2.2.2.2.1
abbrev dSo (D : MdS) : List Nat := D.2.2.2.2.2.2.2.1
abbrev dTh (D : MdS) : Nat := D.2.2.2.2.2.2.2.2.1
abbrev dZz (D : MdS) : Int32 := D.2.2.2.2.2.2.2.2.2.1
abbrev dBn (D : MdS) : Nat := D.2.2.2.2.2.2.2.2.2.2.1
abbrev dCm (D : MdS) : Nat := D.2.2.2.2.2.2.2.2.2.2.2
theorem ct_X8_init (g : Gv) (J : Jd g) {a : Nat} {v : Int32} {o : Option Nat} {q : Option Nat} {l : Nat} : Ct g yX8_init (ws_ yX8_init cX8_init 5 none) 1 0 0 [.ref a, .int v, .int (oI o), .int (oI q), .int (nI l)] [[(a, .inr (14, [.int (nI 0), .int (nI 0), .int (nI 0), .int (nI 0)]))]] (fun (rv_ : Option Value) (rL_ : List va_W) => rv_ = none ∧ rL_ = [[(a, .inr (14, [.int v, .int (oI o), .int (oI q), .int (nI l)]))]]) noX := by
  refine Ct.ofI "KeygroveModel$Secret" [some (.ref a), some (.int v), some (.int (oI o)), some (.int (oI q)), some (.int (nI l))] rfl (by decide) rfl (Nat.le_of_ble_eq_true rfl) rfl rfl ?_
  intro κ B E tb ini
  refine g_aload_n (q := 1) B dX8_init_0 rfl rfl (rv_r _) ?_
  refine g_objInit (q := 4) B q3180 q157 q158 dX8_init_1 rfl rfl (Nat.le_of_ble_eq_true rfl) ?_
  refine g_aload_n (q := 5) B dX8_init_4 rfl rfl (rv_r _) ?_
  refine g_iload_n (q := 6) B dX8_init_5 rfl rfl ?_
  refine g_putF (q := 9) (L2 := [[(a, .inr (14, [.int v, .int (nI 0), .int (nI 0), .int (nI 0)]))]]) B (ci := 14) (k := 0) (j := 0) in_X8 tyX8 tyX8_ok nmX8 rfl dX8_init_6 rfl rfl (Nat.le_of_ble_eq_true rfl) q3181 rfl rfl (ini) rfl rfl rfl (Nat.le_of_ble_eq_true rfl) rfl ?_
  refine g_aload_n (q := 10) B dX8_init_9 rfl rfl (rv_r _) ?_
  refine g_iload_n (q := 11) B dX8_init_10 rfl rfl ?_
  refine g_putF (q := 14) (L2 := [[(a, .inr (14, [.int v, .int (oI o), .int (nI 0), .int (nI 0)]))]]) B (ci := 14) (k := 0) (j := 1) in_X8 tyX8 tyX8_ok nmX8 rfl dX8_init_11 rfl rfl (Nat.le_of_ble_eq_true rfl) q3183 rfl rfl (ini) rfl rfl rfl (Nat.le_of_ble_eq_true rfl) rfl ?_
  refine g_aload_n (q := 15) B dX8_init_14 rfl rfl (rv_r _) ?_
  refine g_iload_n (q := 16) B dX8_init_15 rfl rfl ?_
  refine g_putF (q := 19) (L2 := [[(a, .inr (14, [.int v, .int (oI o), .int (oI q), .int (nI 0)]))]]) B (ci := 14) (k := 0) (j := 2) in_X8 tyX8 tyX8_ok nmX8 rfl dX8_init_16 rfl rfl (Nat.le_of_ble_eq_true rfl) q3185 rfl rfl (ini) rfl rfl rfl (Nat.le_of_ble_eq_true rfl) rfl ?_
  refine g_aload_n (q := 20) B dX8_init_19 rfl rfl (rv_r _) ?_
  refine g_iload (q := 22) B dX8_init_20 rfl rfl ?_
  refine g_putF (q := 25) (L2 := [[(a, .inr (14, [.int v, .int (oI o), .int (oI q), .int (nI l)]))]]) B (ci := 14) (k := 0) (j := 3) in_X8 tyX8 tyX8_ok nmX8 rfl dX8_init_22 rfl rfl (Nat.le_of_ble_eq_true rfl) q3187 rfl rfl (ini) rfl rfl rfl (Nat.le_of_ble_eq_true rfl) rfl ?_
  exact g_vret B E dX8_init_25 (⟨rfl, rfl⟩)
theorem ct_X20_init (g : Gv) (J : Jd g) {a : Nat} {o : Nat} {i : Nat} : Ct g yX20_init (ws_ yX20_init cX20_init 3 none) 1 0 0 [.ref a, .int (nI o), .int (nI i)] [[(a, .inr (19, [.int (nI 0), .int (nI 0)]))]] (fun (rv_ : Option Value) (rL_ : List va_W) => rv_ = none ∧ rL_ = [[(a, .inr (19, [.int (nI o), .int (nI i)]))]]) noX := by
  refine Ct.ofI "KeygroveModel$Box" [some (.ref a), some (.int (nI o)), some (.int (nI i))] rfl (by decide) rfl (Nat.le_of_ble_eq_true rfl) rfl rfl ?_
  intro κ B E tb ini
  refine g_aload_n (q := 1) B dX20_init_0 rfl rfl (rv_r _) ?_
  refine g_objInit (q := 4) B q3481 q157 q158 dX20_init_1 rfl rfl (Nat.le_of_ble_eq_true rfl) ?_
  refine g_aload_n (q := 5) B dX20_init_4 rfl rfl (rv_r _) ?_
  refine g_iload_n (q := 6) B dX20_init_5 rfl rfl ?_
  refine g_putF (q := 9) (L2 := [[(a, .inr (19, [.int (nI o), .int (nI 0)]))]]) B (ci := 19) (k := 0) (j := 0) in_X20 tyX20 tyX20_ok nmX20 rfl dX20_init_6 rfl rfl (Nat.le_of_ble_eq_true rfl) q3482 rfl rfl (ini) rfl rfl rfl (Nat.le_of_ble_eq_true rfl) rfl ?_
  refine g_aload_n (q := 10) B dX20_init_9 rfl rfl (rv_r _) ?_
  refine g_iload_n (q := 11) B dX20_init_10 rfl rfl ?_
  refine g_putF (q := 14) (L2 := [[(a, .inr (19, [.int (nI o), .int (nI i)]))]]) B (ci := 19) (k := 0) (j := 1) in_X20 tyX20 tyX20_ok nmX20 rfl dX20_init_11 rfl rfl (Nat.le_of_ble_eq_true rfl) q3484 rfl rfl (ini) rfl rfl rfl (Nat.le_of_ble_eq_true rfl) rfl ?_
  exact g_vret B E dX20_init_14 (⟨rfl, rfl⟩)
theorem fits_ch {k : Nat} (h : k = 97 ∨ k = 110 ∨ k = 114) : fits .char (.int (nI k)) = true := by
  rcases h with rfl | rfl | rfl <;> decide
theorem narrow_ch {k : Nat} (h : k = 97 ∨ k = 110 ∨ k = 114) : narrow .char (.int (nI k)) = .int (nI k) := by
  show Value.int (nI k).toUInt32.toUInt16.toUInt32.toInt32 = .int (nI k)
  rw [show (nI k).toUInt32.toUInt16.toUInt32.toInt32 = nI k by rcases h with rfl | rfl | rfl <;> decide]
theorem ct_X17_init (g : Gv) (J : Jd g) {a : Nat} {k : Nat} {p : Nat} {w : Nat} (hk : k = 97 ∨ k = 110 ∨ k = 114) : Ct g yX17_init (ws_ yX17_init cX17_init 4 none) 1 0 0 [.ref a, .int (nI k), .int (nI p), .int (nI w)] [[(a, .inr (18, [.int (nI 0), .int (nI 0), .int (nI 0)]))]] (fun (rv_ : Option Value) (rL_ : List va_W) => rv_ = none ∧ rL_ = [[(a, .inr (18, [.int (nI k), .int (nI p), .int (nI w)]))]]) noX := by
  refine Ct.ofI "KeygroveModel$Proposal" [some (.ref a), some (.int (nI k)), some (.int (nI p)), some (.int (nI w))] rfl (by decide) rfl (Nat.le_of_ble_eq_true rfl) rfl rfl ?_
  intro κ B E tb ini
  refine g_aload_n (q := 1) B dX17_init_0 rfl rfl (rv_r _) ?_
  refine g_objInit (q := 4) B q3391 q157 q158 dX17_init_1 rfl rfl (Nat.le_of_ble_eq_true rfl) ?_
  refine g_aload_n (q := 5) B dX17_init_4 rfl rfl (rv_r _) ?_
  refine g_iload_n (q := 6) B dX17_init_5 rfl rfl ?_
  refine g_putF (q := 9) (L2 := [[(a, .inr (18, [.int (nI k), .int (nI 0), .int (nI 0)]))]]) B (ci := 18) (k := 0) (j := 0) in_X17 tyX17 tyX17_ok nmX17 rfl dX17_init_6 rfl rfl (Nat.le_of_ble_eq_true rfl) q3392 rfl rfl (ini) rfl (narrow_ch hk) (fits_ch hk) (Nat.le_of_ble_eq_true rfl) rfl ?_
  refine g_aload_n (q := 10) B dX17_init_9 rfl rfl (rv_r _) ?_
  refine g_iload_n (q := 11) B dX17_init_10 rfl rfl ?_
  refine g_putF (q := 14) (L2 := [[(a, .inr (18, [.int (nI k), .int (nI p), .int (nI 0)]))]]) B (ci := 18) (k := 0) (j := 1) in_X17 tyX17 tyX17_ok nmX17 rfl dX17_init_11 rfl rfl (Nat.le_of_ble_eq_true rfl) q3394 rfl rfl (ini) rfl rfl rfl (Nat.le_of_ble_eq_true rfl) rfl ?_
  refine g_aload_n (q := 15) B dX17_init_14 rfl rfl (rv_r _) ?_
  refine g_iload_n (q := 16) B dX17_init_15 rfl rfl ?_
  refine g_putF (q := 19) (L2 := [[(a, .inr (18, [.int (nI k), .int (nI p), .int (nI w)]))]]) B (ci := 18) (k := 0) (j := 2) in_X17 tyX17 tyX17_ok nmX17 rfl dX17_init_16 rfl rfl (Nat.le_of_ble_eq_true rfl) q3396 rfl rfl (ini) rfl rfl rfl (Nat.le_of_ble_eq_true rfl) rfl ?_
  exact g_vret B E dX17_init_19 (⟨rfl, rfl⟩)
theorem ct_X22_init (g : Gv) (J : Jd g) {a : Nat} {e : Nat} {l : Nat} {p : Nat} {k : Nat} {x : Nat} : Ct g yX22_init (ws_ yX22_init cX22_init 6 none) 1 0 0 [.ref a, .int (nI e), .int (nI l), .int (nI p), .int (nI k), .int (nI x)] [[(a, .inr (20, [.int (nI 0), .int (nI 0), .int (nI 0), .int (nI 0), .int (nI 0)]))]] (fun (rv_ : Option Value) (rL_ : List va_W) => rv_ = none ∧ rL_ = [[(a, .inr (20, [.int (nI e), .int (nI l), .int (nI p), .int (nI k), .int (nI x)]))]]) noX := by
  refine Ct.ofI "KeygroveModel$Message" [some (.ref a), some (.int (nI e)), some (.int (nI l)), some (.int (nI p)), some (.int (nI k)), some (.int (nI x))] rfl (by decide) rfl (Nat.le_of_ble_eq_true rfl) rfl rfl ?_
  intro κ B E tb ini
  refine g_aload_n (q := 1) B dX22_init_0 rfl rfl (rv_r _) ?_
  refine g_objInit (q := 4) B q3567 q157 q158 dX22_init_1 rfl rfl (Nat.le_of_ble_eq_true rfl) ?_
  refine g_aload_n (q := 5) B dX22_init_4 rfl rfl (rv_r _) ?_
  refine g_iload_n (q := 6) B dX22_init_5 rfl rfl ?_
  refine g_putF (q := 9) (L2 := [[(a, .inr (20, [.int (nI e), .int (nI 0), .int (nI 0), .int (nI 0), .int (nI 0)]))]]) B (ci := 20) (k := 0) (j := 0) in_X22 tyX22 tyX22_ok nmX22 rfl dX22_init_6 rfl rfl (Nat.le_of_ble_eq_true rfl) q3568 rfl rfl (ini) rfl rfl rfl (Nat.le_of_ble_eq_true rfl) rfl ?_
  refine g_aload_n (q := 10) B dX22_init_9 rfl rfl (rv_r _) ?_
  refine g_iload_n (q := 11) B dX22_init_10 rfl rfl ?_
  refine g_putF (q := 14) (L2 := [[(a, .inr (20, [.int (nI e), .int (nI l), .int (nI 0), .int (nI 0), .int (nI 0)]))]]) B (ci := 20) (k := 0) (j := 1) in_X22 tyX22 tyX22_ok nmX22 rfl dX22_init_11 rfl rfl (Nat.le_of_ble_eq_true rfl) q3570 rfl rfl (ini) rfl rfl rfl (Nat.le_of_ble_eq_true rfl) rfl ?_
  refine g_aload_n (q := 15) B dX22_init_14 rfl rfl (rv_r _) ?_
  refine g_iload_n (q := 16) B dX22_init_15 rfl rfl ?_
  refine g_putF (q := 19) (L2 := [[(a, .inr (20, [.int (nI e), .int (nI l), .int (nI p), .int (nI 0), .int (nI 0)]))]]) B (ci := 20) (k := 0) (j := 2) in_X22 tyX22 tyX22_ok nmX22 rfl dX22_init_16 rfl rfl (Nat.le_of_ble_eq_true rfl) q3572 rfl rfl (ini) rfl rfl rfl (Nat.le_of_ble_eq_true rfl) rfl ?_
  refine g_aload_n (q := 20) B dX22_init_19 rfl rfl (rv_r _) ?_
  refine g_iload (q := 22) B dX22_init_20 rfl rfl ?_
  refine g_putF (q := 25) (L2 := [[(a, .inr (20, [.int (nI e), .int (nI l), .int (nI p), .int (nI k), .int (nI 0)]))]]) B (ci := 20) (k := 0) (j := 3) in_X22 tyX22 tyX22_ok nmX22 rfl dX22_init_22 rfl rfl (Nat.le_of_ble_eq_true rfl) q3574 rfl rfl (ini) rfl rfl rfl (Nat.le_of_ble_eq_true rfl) rfl ?_
  refine g_aload_n (q := 26) B dX22_init_25 rfl rfl (rv_r _) ?_
  refine g_iload (q := 28) B dX22_init_26 rfl rfl ?_
  refine g_putF (q := 31) (L2 := [[(a, .inr (20, [.int (nI e), .int (nI l), .int (nI p), .int (nI k), .int (nI x)]))]]) B (ci := 20) (k := 0) (j := 4) in_X22 tyX22 tyX22_ok nmX22 rfl dX22_init_28 rfl rfl (Nat.le_of_ble_eq_true rfl) q3575 rfl rfl (ini) rfl rfl rfl (Nat.le_of_ble_eq_true rfl) rfl ?_
  exact g_vret B E dX22_init_31 (⟨rfl, rfl⟩)
theorem ct_X9_init (g : Gv) (J : Jd g) {a : Nat} {p : Nat} {f : Nat} {s : Nat} (hp : p < 16) (hf : f < 1000) (hs : s < 1000) : Ct g yX9_init (ws_ yX9_init cX9_init 4 none) 1 0 0 [.ref a, .int (nI p), .int (nI f), .int (nI s)] [[(a, .inr (15, [.int (nI 0), .int (nI 0), .int (nI 0), .int (nI 0), .int (nI 0)]))]] (fun (rv_ : Option Value) (rL_ : List va_W) => ∃ (u0 : va_W), rv_ = none ∧ rL_ = [u0] ∧ MqP g a ((p, f, s, false, false) : MkS) u0) noX := by
  refine Ct.ofI "KeygroveModel$Pack" [some (.ref a), some (.int (nI p)), some (.int (nI f)), some (.int (nI s))] rfl (by decide) rfl (Nat.le_of_ble_eq_true rfl) rfl rfl ?_
  intro κ B E tb ini
  refine g_aload_n (q := 1) B dX9_init_0 rfl rfl (rv_r _) ?_
  refine g_objInit (q := 4) B q3203 q157 q158 dX9_init_1 rfl rfl (Nat.le_of_ble_eq_true rfl) ?_
  refine g_aload_n (q := 5) B dX9_init_4 rfl rfl (rv_r _) ?_
  refine g_iload_n (q := 6) B dX9_init_5 rfl rfl ?_
  refine g_putF (q := 9) (L2 := [[(a, .inr (15, [.int (nI p), .int (nI 0), .int (nI 0), .int (nI 0), .int (nI 0)]))]]) B (ci := 15) (k := 0) (j := 0) in_X9 tyX9 tyX9_ok nmX9 rfl dX9_init_6 rfl rfl (Nat.le_of_ble_eq_true rfl) q3204 rfl rfl (ini) rfl rfl rfl (Nat.le_of_ble_eq_true rfl) rfl ?_
  refine g_aload_n (q := 10) B dX9_init_9 rfl rfl (rv_r _) ?_
  refine g_iload_n (q := 11) B dX9_init_10 rfl rfl ?_
  refine g_putF (q := 14) (L2 := [[(a, .inr (15, [.int (nI p), .int (nI f), .int (nI 0), .int (nI 0), .int (nI 0)]))]]) B (ci := 15) (k := 0) (j := 1) in_X9 tyX9 tyX9_ok nmX9 rfl dX9_init_11 rfl rfl (Nat.le_of_ble_eq_true rfl) q3206 rfl rfl (ini) rfl rfl rfl (Nat.le_of_ble_eq_true rfl) rfl ?_
  refine g_aload_n (q := 15) B dX9_init_14 rfl rfl (rv_r _) ?_
  refine g_iload_n (q := 16) B dX9_init_15 rfl rfl ?_
  refine g_putF (q := 19) (L2 := [[(a, .inr (15, [.int (nI p), .int (nI f), .int (nI s), .int (nI 0), .int (nI 0)]))]]) B (ci := 15) (k := 0) (j := 2) in_X9 tyX9 tyX9_ok nmX9 rfl dX9_init_16 rfl rfl (Nat.le_of_ble_eq_true rfl) q3208 rfl rfl (ini) rfl rfl rfl (Nat.le_of_ble_eq_true rfl) rfl ?_
  obtain ⟨wc_1, ewc_1⟩ : ∃ w : va_W, w = ([[(a, .inr (15, [.int (nI p), .int (nI f), .int (nI s), .int (nI 0), .int (nI 0)]))]] : List va_W).flatten := ⟨_, rfl⟩
  have hwc_1 : MqP g a ((p, f, s, false, false) : MkS) wc_1 := by
    rw [ewc_1]
    exact ⟨⟨hp, hf, hs⟩, rfl⟩
  refine g_close (w := wc_1) [0] rfl ewc_1 rfl ?_
  refine (show Go g κ 19 [some (.ref a), some (.int (nI p)), some (.int (nI f)), some (.int (nI s))] [] [wc_1] 0 0 from ?_)
  exact g_vret B E dX9_init_19 (⟨wc_1, rfl, rfl, hwc_1⟩)
theorem ct_X14_init (g : Gv) (J : Jd g) {a : Nat} {s : Nat} (hs : s < 1000) : Ct g yX14_init (ws_ yX14_init cX14_init 2 none) 4 2 6 [.ref a, .int (nI s)] [[(a, .inr (17, [.int (nI 0), .int (nI 0), .null, .null]))]] (fun (rv_ : Option Value) (rL_ : List va_W) => ∃ (u0 : va_W), rv_ = none ∧ rL_ = [u0] ∧ McP g a ((s, 0, []) : McS) u0) noX := by
  refine Ct.ofI "KeygroveModel$Chain" [some (.ref a), some (.int (nI s))] rfl (by decide) rfl (Nat.le_of_ble_eq_true rfl) rfl rfl ?_
  intro κ B E tb ini
  refine g_aload_n (q := 1) B dX14_init_0 rfl rfl (rv_r _) ?_
  refine g_objInit (q := 4) B q3315 q157 q158 dX14_init_1 rfl rfl (Nat.le_of_ble_eq_true rfl) ?_
  refine g_aload_n (q := 5) B dX14_init_4 rfl rfl (rv_r _) ?_
  refine g_new (q := 8) (kc2 := 1) (ks2 := 3) (fs := [.int (nI 0), .null, .int (nI 0)]) B (ci := 21) in_J2 tyJ2_ok rfl dX14_init_5 rfl q3316 q166 q81 (nwJ2) (Nat.le_of_ble_eq_true rfl) (Nat.le_of_ble_eq_true rfl) (fun n5 => ?_)
  refine (show Go g κ 8 [some (.ref a), some (.int (nI s))] [.ref n5, .ref a] [[(a, .inr (17, [.int (nI 0), .int (nI 0), .null, .null]))], [(n5, .inr (21, [.int (nI 0), .null, .int (nI 0)]))]] 1 3 from ?_)
  refine g_dup (q := 9) B dX14_init_8 rfl rfl ?_
  refine g_callI (q := 12) (is := [1]) (kc2 := 1) (ks2 := 3) B [] (ct_J2_init g J (p := n5)  ) dX14_init_9 rfl rfl q3317 q168 q81 q169 rfl rfl moJ2_init rfl rfl (by decide) (by decide) (Nat.le_of_ble_eq_true rfl) (Nat.le_of_ble_eq_true rfl) (Nat.le_of_ble_eq_true rfl) (fun _ _ hx => noX_x hx) (fun v9 L1 hp9 => ?_)
  obtain ⟨u0_9, rfl, rfl, hu0_9⟩ := hp9
  refine (show Go g κ 12 [some (.ref a), some (.int (nI s))] [.ref n5, .ref a] [[(a, .inr (17, [.int (nI 0), .int (nI 0), .null, .null]))], u0_9] 1 3 from ?_)
  refine g_putF (q := 15) (L2 := [[(a, .inr (17, [.int (nI 0), .int (nI 0), .ref n5, .null]))], u0_9]) B (ci := 17) (k := 0) (j := 2) in_X14 tyX14 tyX14_ok nmX14 rfl dX14_init_12 rfl rfl (Nat.le_of_ble_eq_true rfl) q3321 rfl rfl (ini) rfl rfl rfl (Nat.le_of_ble_eq_true rfl) rfl ?_
  refine g_aload_n (q := 16) B dX14_init_15 rfl rfl (rv_r _) ?_
  refine g_new (q := 19) (kc2 := 0) (ks2 := 0) (fs := [.int (nI 0), .null, .int (nI 0)]) B (ci := 21) in_J2 tyJ2_ok rfl dX14_init_16 rfl q3316 q166 q81 (nwJ2) (Nat.le_of_ble_eq_true rfl) (Nat.le_of_ble_eq_true rfl) (fun n16 => ?_)
  refine (show Go g κ 19 [some (.ref a), some (.int (nI s))] [.ref n16, .ref a] [[(a, .inr (17, [.int (nI 0), .int (nI 0), .ref n5, .null]))], u0_9, [(n16, .inr (21, [.int (nI 0), .null, .int (nI 0)]))]] 0 0 from ?_)
  refine g_dup (q := 20) B dX14_init_19 rfl rfl ?_
  refine g_callI (q := 23) (is := [2]) (kc2 := 0) (ks2 := 0) B [] (ct_J2_init g J (p := n16)  ) dX14_init_20 rfl rfl q3317 q168 q81 q169 rfl rfl moJ2_init rfl rfl (by decide) (by decide) (Nat.le_of_ble_eq_true rfl) (Nat.le_of_ble_eq_true rfl) (Nat.le_of_ble_eq_true rfl) (fun _ _ hx => noX_x hx) (fun v20 L1 hp20 => ?_)
  obtain ⟨u0_20, rfl, rfl, hu0_20⟩ := hp20
  refine (show Go g κ 23 [some (.ref a), some (.int (nI s))] [.ref n16, .ref a] [[(a, .inr (17, [.int (nI 0), .int (nI 0), .ref n5, .null]))], u0_9, u0_20] 0 0 from ?_)
  refine g_putF (q := 26) (L2 := [[(a, .inr (17, [.int (nI 0), .int (nI 0), .ref n5, .ref n16]))], u0_9, u0_20]) B (ci := 17) (k := 0) (j := 3) in_X14 tyX14 tyX14_ok nmX14 rfl dX14_init_23 rfl rfl (Nat.le_of_ble_eq_true rfl) q3323 rfl rfl (ini) rfl rfl rfl (Nat.le_of_ble_eq_true rfl) rfl ?_
  refine g_aload_n (q := 27) B dX14_init_26 rfl rfl (rv_r _) ?_
  refine g_iload_n (q := 28) B dX14_init_27 rfl rfl ?_
  refine g_put (q := 31) (L2 := [[(a, .inr (17, [.int (nI s), .int (nI 0), .ref n5, .ref n16]))], u0_9, u0_20]) B (ci := 17) (k := 0) (j := 0) in_X14 tyX14 tyX14_ok nmX14 rfl dX14_init_28 rfl rfl (Nat.le_of_ble_eq_true rfl) q3318 rfl rfl rfl rfl (Nat.le_of_ble_eq_true rfl) rfl ?_
  obtain ⟨wc_1, ewc_1⟩ : ∃ w : va_W, w = ([[(a, .inr (17, [.int (nI s), .int (nI 0), .ref n5, .ref n16]))], u0_9, u0_20] : List va_W).flatten := ⟨_, rfl⟩
  have hwc_1 : McP g a ((s, 0, []) : McS) wc_1 := by
    rw [ewc_1]
    exact ⟨n5, n16, 0, 0, _, _, ⟨hs, (show 0 < 100 by decide), (show 0 ≤ 40 by decide), (fun p h => by cases h)⟩, ⟨(by decide), (by decide)⟩, (hu0_9.nilH), (hu0_20.nilH), rfl⟩
  refine g_close (w := wc_1) [0, 0, 0] rfl ewc_1 rfl ?_
  refine (show Go g κ 31 [some (.ref a), some (.int (nI s))] [] [wc_1] 0 0 from ?_)
  exact g_vret B E dX14_init_31 (⟨wc_1, rfl, rfl, hwc_1⟩)
theorem oI_z : (0 : Int32) = oI (some 0) := rfl
theorem BgM.nil {α : Type} {E : Nat → α → va_W → Prop} : BgM E (fun _ => none) (fun _ => none) ([] : List va_W).flatten := ⟨fun _ => [], fun i _ => Or.inl ⟨rfl, rfl, rfl⟩, by simp⟩
theorem ct_X5_init (g : Gv) (J : Jd g) {a : Nat} : Ct g yX5_init (ws_ yX5_init cX5_init 1 none) 4 3 50 [.ref a] [[(a, .inr (13, [.int (nI 0), .int (nI 0), .int (nI 0), .int (nI 0), .null, .null, .null]))]] (fun (rv_ : Option Value) (rL_ : List va_W) => ∃ (u0 : va_W), rv_ = none ∧ rL_ = [u0] ∧ MpP g a ((none, 0, 0, none, fun _ => some 0, fun _ => none, []) : MpS) u0) noX := by
  refine Ct.ofI "KeygroveModel$Person" [some (.ref a)] rfl (by decide) rfl (Nat.le_of_ble_eq_true rfl) rfl rfl ?_
  intro κ B E tb ini
  refine g_aload_n (q := 1) B dX5_init_0 rfl rfl (rv_r _) ?_
  refine g_objInit (q := 4) B q3112 q157 q158 dX5_init_1 rfl rfl (Nat.le_of_ble_eq_true rfl) ?_
  refine g_aload_n (q := 5) B dX5_init_4 rfl rfl (rv_r _) ?_
  refine g_iconst (v := -1) (q := 6) B dX5_init_5 rfl (by decide) ?_
  refine g_put (q := 9) (L2 := [[(a, .inr (13, [.int (-1), .int (nI 0), .int (nI 0), .int (nI 0), .null, .null, .null]))]]) B (ci := 13) (k := 0) (j := 0) in_X5 tyX5 tyX5_ok nmX5 rfl dX5_init_6 rfl rfl (Nat.le_of_ble_eq_true rfl) q3117 rfl rfl rfl rfl (Nat.le_of_ble_eq_true rfl) rfl ?_
  refine g_aload_n (q := 10) B dX5_init_9 rfl rfl (rv_r _) ?_
  refine g_iconst (v := -1) (q := 11) B dX5_init_10 rfl (by decide) ?_
  refine g_put (q := 14) (L2 := [[(a, .inr (13, [.int (-1), .int (nI 0), .int (nI 0), .int (-1), .null, .null, .null]))]]) B (ci := 13) (k := 0) (j := 3) in_X5 tyX5 tyX5_ok nmX5 rfl dX5_init_11 rfl rfl (Nat.le_of_ble_eq_true rfl) q3121 rfl rfl rfl rfl (Nat.le_of_ble_eq_true rfl) rfl ?_
  refine g_aload_n (q := 15) B dX5_init_14 rfl rfl (rv_r _) ?_
  refine g_bipush (v := nI 31) (q := 17) B dX5_init_15 rfl (by decide) ?_
  refine g_newa (atype := .int) (q := 19) (kc2 := 2) (ks2 := 19) (t := 0) (a0 := (31, .inl (fun _ => 0))) B q2055 rfl rfl dX5_init_17 rfl na_int (by decide) rfl (by decide) (Nat.le_of_ble_eq_true rfl) (Nat.le_of_ble_eq_true rfl) (fun n17 => ?_)
  refine (show Go g κ 19 [some (.ref a)] [.ref n17, .ref a] [[(a, .inr (13, [.int (-1), .int (nI 0), .int (nI 0), .int (-1), .null, .null, .null]))], [(n17, .inl (g.2.1 0, 31, .inl (fun _ => 0)))]] 2 19 from ?_)
  refine g_putF (q := 22) (L2 := [[(a, .inr (13, [.int (-1), .int (nI 0), .int (nI 0), .int (-1), .ref n17, .null, .null]))], [(n17, .inl (g.2.1 0, 31, .inl (fun _ => 0)))]]) B (ci := 13) (k := 0) (j := 4) in_X5 tyX5 tyX5_ok nmX5 rfl dX5_init_19 rfl rfl (Nat.le_of_ble_eq_true rfl) q3123 rfl rfl (ini) rfl rfl rfl (Nat.le_of_ble_eq_true rfl) rfl ?_
  refine g_aload_n (q := 23) B dX5_init_22 rfl rfl (rv_r _) ?_
  refine g_bipush (v := nI 16) (q := 25) B dX5_init_23 rfl (by decide) ?_
  refine g_newq (q := 28) (kc2 := 1) (ks2 := 3) (t := 5) (N := 16) B q3113 q3114 rfl dX5_init_25 rfl (by decide) rfl (by decide) (Nat.le_of_ble_eq_true rfl) (Nat.le_of_ble_eq_true rfl) (fun n25 => ?_)
  refine (show Go g κ 28 [some (.ref a)] [.ref n25, .ref a] [[(a, .inr (13, [.int (-1), .int (nI 0), .int (nI 0), .int (-1), .ref n17, .null, .null]))], [(n17, .inl (g.2.1 0, 31, .inl (fun _ => 0)))], [(n25, .inl (g.2.1 5, 16, .inr (.inr (.inr (.inr (fun _ => none))))))]] 1 3 from ?_)
  refine g_putF (q := 31) (L2 := [[(a, .inr (13, [.int (-1), .int (nI 0), .int (nI 0), .int (-1), .ref n17, .ref n25, .null]))], [(n17, .inl (g.2.1 0, 31, .inl (fun _ => 0)))], [(n25, .inl (g.2.1 5, 16, .inr (.inr (.inr (.inr (fun _ => none))))))]]) B (ci := 13) (k := 0) (j := 5) in_X5 tyX5 tyX5_ok nmX5 rfl dX5_init_28 rfl rfl (Nat.le_of_ble_eq_true rfl) q3125 rfl rfl (ini) rfl rfl rfl (Nat.le_of_ble_eq_true rfl) rfl ?_
  refine g_aload_n (q := 32) B dX5_init_31 rfl rfl (rv_r _) ?_
  refine g_new (q := 35) (kc2 := 0) (ks2 := 0) (fs := [.int (nI 0), .null, .int (nI 0)]) B (ci := 21) in_J2 tyJ2_ok rfl dX5_init_32 rfl q3115 q166 q81 (nwJ2) (Nat.le_of_ble_eq_true rfl) (Nat.le_of_ble_eq_true rfl) (fun n32 => ?_)
  refine (show Go g κ 35 [some (.ref a)] [.ref n32, .ref a] [[(a, .inr (13, [.int (-1), .int (nI 0), .int (nI 0), .int (-1), .ref n17, .ref n25, .null]))], [(n17, .inl (g.2.1 0, 31, .inl (fun _ => 0)))], [(n25, .inl (g.2.1 5, 16, .inr (.inr (.inr (.inr (fun _ => none))))))], [(n32, .inr (21, [.int (nI 0), .null, .int (nI 0)]))]] 0 0 from ?_)
  refine g_dup (q := 36) B dX5_init_35 rfl rfl ?_
  refine g_callI (q := 39) (is := [3]) (kc2 := 0) (ks2 := 0) B [] (ct_J2_init g J (p := n32)  ) dX5_init_36 rfl rfl q3116 q168 q81 q169 rfl rfl moJ2_init rfl rfl (by decide) (by decide) (Nat.le_of_ble_eq_true rfl) (Nat.le_of_ble_eq_true rfl) (Nat.le_of_ble_eq_true rfl) (fun _ _ hx => noX_x hx) (fun v36 L1 hp36 => ?_)
  obtain ⟨u0_36, rfl, rfl, hu0_36⟩ := hp36
  refine (show Go g κ 39 [some (.ref a)] [.ref n32, .ref a] [[(a, .inr (13, [.int (-1), .int (nI 0), .int (nI 0), .int (-1), .ref n17, .ref n25, .null]))], [(n17, .inl (g.2.1 0, 31, .inl (fun _ => 0)))], [(n25, .inl (g.2.1 5, 16, .inr (.inr (.inr (.inr (fun _ => none))))))], u0_36] 0 0 from ?_)
  refine g_putF (q := 42) (L2 := [[(a, .inr (13, [.int (-1), .int (nI 0), .int (nI 0), .int (-1), .ref n17, .ref n25, .ref n32]))], [(n17, .inl (g.2.1 0, 31, .inl (fun _ => 0)))], [(n25, .inl (g.2.1 5, 16, .inr (.inr (.inr (.inr (fun _ => none))))))], u0_36]) B (ci := 13) (k := 0) (j := 6) in_X5 tyX5 tyX5_ok nmX5 rfl dX5_init_39 rfl rfl (Nat.le_of_ble_eq_true rfl) q3127 rfl rfl (ini) rfl rfl rfl (Nat.le_of_ble_eq_true rfl) rfl ?_
  obtain ⟨wc_1, ewc_1⟩ : ∃ w : va_W, w = ([] : List va_W).flatten := ⟨_, rfl⟩
  have hwc_1 : BgM (McP g) (fun _ => none) (fun _ => none) wc_1 := by
    rw [ewc_1]
    exact BgM.nil
  refine g_close (w := wc_1) [] rfl ewc_1 rfl ?_
  refine (show Go g κ 42 [some (.ref a)] [] [[(a, .inr (13, [.int (-1), .int (nI 0), .int (nI 0), .int (-1), .ref n17, .ref n25, .ref n32]))], [(n17, .inl (g.2.1 0, 31, .inl (fun _ => 0)))], [(n25, .inl (g.2.1 5, 16, .inr (.inr (.inr (.inr (fun _ => none))))))], u0_36, wc_1] 0 0 from ?_)
  obtain ⟨wc_2, ewc_2⟩ : ∃ w : va_W, w = ([[(a, .inr (13, [.int (-1), .int (nI 0), .int (nI 0), .int (-1), .ref n17, .ref n25, .ref n32]))], [(n17, .inl (g.2.1 0, 31, .inl (fun _ => 0)))], [(n25, .inl (g.2.1 5, 16, .inr (.inr (.inr (.inr (fun _ => none))))))], wc_1, u0_36] : List va_W).flatten := ⟨_, rfl⟩
  have hwc_2 : MpP g a ((none, 0, 0, none, fun _ => some 0, fun _ => none, []) : MpS) wc_2 := by
    rw [ewc_2]
    exact ⟨n17, n25, n32, 0, (fun _ => 0), (fun _ => none), _, _, ⟨(fun n h => by cases h), (show 0 < 16 by decide), (show 0 < 1000 by decide), (fun n h => by cases h), (fun i n h => by cases h; decide), (fun i c h => by cases h), (show 0 ≤ 1000 by decide), (fun x h => by cases h)⟩, (fun i _ => rfl), (fun i _ => ⟨rfl, rfl⟩), rfl, hwc_1, (hu0_36.nilH), rfl⟩
  refine g_close (w := wc_2) [0, 0, 0, 1, 0] rfl ewc_2 rfl ?_
  refine (show Go g κ 42 [some (.ref a)] [] [wc_2] 0 0 from ?_)
  exact g_vret B E dX5_init_42 (⟨wc_2, rfl, rfl, hwc_2⟩)
