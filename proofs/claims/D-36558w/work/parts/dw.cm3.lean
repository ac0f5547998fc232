set_option maxRecDepth 100000
/-! ===== a commit: the secrets behind the lays ===== -/
theorem or8 {A u b e o k c w : Prop} : (((((((A ∨ u) ∨ b) ∨ e) ∨ o) ∨ k) ∨ c) ∨ w) ↔ (((((((A ∨ u) ∨ b) ∨ w) ∨ e) ∨ o) ∨ k) ∨ c) := by
  constructor <;> rintro (((((((h | h) | h) | h) | h) | h) | h) | h) <;> simp [h]
theorem cm3 {sL tL : List Sec} {bL cL : List (Nat × Nat)} {T U : TrS} {last last' onR goE own fr : Nat} {bgF enF : Nat → Option Nat} {Ks : List PkS} {Ms : List MkS} {ids : List Nat} {pk : Nat → Option Nat} {sec : Nat → Nat} {p x0 : Nm} {zn sn : Nat → Nm} (hS : SqS sL tL) (hO : SsOk tL) (hB : Bq sL tL bL cL) (hI : TrI T) (hQ : TrQ sL tL T U) (hla : At sL last p) (hlb : At tL last' p) (hoa : At sL onR (n1 x0 5)) (hob : At tL goE (n1 x0 5)) (hid : ids.Nodup) (hl : sL.length ≤ 950)
    (h1 : ∀ l kk, pk l = some kk → kk ∈ ids ∧ ∃ q q', Ks[kk]? = some q ∧ Ms[kk]? = some q' ∧ T.2.2.2 l = some q.1 ∧ At sL q.2.2.1 (zn l) ∧ At tL q'.2.2.1 (zn l) ∧ ∃ n s, mtg T own l = some n ∧ T.2.1 n = some s ∧ At sL s (sn l) ∧ At tL (sec l) (sn l)) (h2 : ∀ l id q, id ∈ ids → Ks[id]? = some q → T.2.2.2 l = some q.1 → pk l = some id) (hcW : cW pk (2 ^ T.1) ≤ 8) :
    ∃ f1 u1 f2 bf f3 es g1 on g2 ky c1 CH0 W CH p1 v1 p2 bf' X p4 es' r1 on' r2 ky' tF DH,
      (frm sL (last, none, 2) = (f1, u1) ∧ frm f1 (onR, some u1, 3) = (f2, bf) ∧ frm f2 (bf, none, 4) = (f3, es) ∧ frm f3 (es, none, 5) = (g1, on) ∧ frm g1 (es, none, 6) = (g2, ky) ∧ chS T es g2 (2 ^ T.1) = (c1, CH0) ∧ wlK T ((own, some bf, es, bgF, enF) : StS) Ks ids (c1, bL) (2 ^ T.1) = W ∧ frm W.1 (es, none, 5) = (W.1, on) ∧ frm W.1 (es, none, 6) = (W.1, ky) ∧ chS T es W.1 (2 ^ T.1) = (W.1, CH)) ∧
      (frm tL (last', none, 2) = (p1, v1) ∧ frm p1 (goE, some v1, 3) = (p2, bf') ∧ wlM sec pk Ms bf' (p2, cL) (2 ^ T.1) = X ∧ frm X.1 (bf', none, 4) = (p4, es') ∧ frm p4 (es', none, 5) = (r1, on') ∧ frm r1 (es', none, 6) = (r2, ky') ∧ chM U es' r2 (2 ^ T.1) = (tF, DH)) ∧
      (SqS W.1 tF ∧ SsOk tF ∧ Pf sL W.1 ∧ Pf sL f3 ∧ Pf tL tF ∧ Bq W.1 tF W.2 X.2 ∧ (∃ b, W.2 = bL ++ b ∧ b.length ≤ 16) ∧ (∃ c, X.2 = cL ++ c) ∧ W.1.length ≤ sL.length + 13 + tkN T (2 ^ T.1) ∧ u1 < W.1.length) ∧
      (n1 p 2 ∈ nms W.1 ∧ At W.1 bf (n2 (n1 x0 5) (n1 p 2) 3) ∧ EpS W.1 tF T ((own, some bf, es, bgF, enF) : StS) ((0, U, on', ky', DH, fun _ => false, fun _ => false, fun _ => none) : MeS) (n1 (n2 (n1 x0 5) (n1 p 2) 3) 4)) ∧
      Nq W.1 tF on on' ∧ Nq W.1 tF ky ky' ∧ (∀ l, (CH l = none ∧ (if l < 16 then (DH l).map fun s => ((s, 0, []) : McS) else none) = none) ∨ ∃ c d, CH l = some c ∧ (if l < 16 then (DH l).map fun s => ((s, 0, []) : McS) else none) = some d ∧ ChQ W.1 tF c d) ∧ (∀ l, CH l = none ↔ T.2.2.2 l = none) ∧ ∀ l c, CH l = some c → c.2.1 = 0 := by
  have hlen := hS.len
  have hp4 := p2_4 hI.1
  obtain ⟨f1, u1, p1, v1, a1, a2, a3, a4, a5, a6, a7, a8, a9⟩ := hS.fm (KN.i1 (l := 2) hla) (KN.i1 (l := 2) hlb)
  have hl1 := a3.len
  have hlbl := hlb.lt
  have aO := a9 hO ⟨by show last' < 1000; omega, Or.inl (by decide)⟩
  obtain ⟨f2, bf, p2, bf', b1, b2, b3, b4, b5, b6, b7, b8, b9⟩ := a3.fm (KN.i2 (l := 3) (a4.at hoa) a6) (KN.i2 (l := 3) (a5.at hob) a7)
  have hl2 := b3.len
  have hobl := hob.lt
  have ha7 := a7.lt
  have bO := b9 aO ⟨by show goE < 1000; omega, by show v1 < 1000; omega, rfl⟩
  generalize hnb : n2 (n1 x0 5) (n1 p 2) 3 = nb at *
  -- Keygrove
  obtain ⟨f3, es, c1, c2, c3, c4, c5, c6, c7, -⟩ := fm_1 b3.1 (KN.i1 (l := 4) b6)
  obtain ⟨g1, on, d1, d2, d3, d4, d5, d6, d7, -⟩ := fm_1 c2 (KN.i1 (l := 5) c4)
  obtain ⟨g2, ky, e1, e2, e3, e4, e5, e6, e7, -⟩ := fm_1 d2 (KN.i1 (l := 6) (d3.at c4))
  have hes2 := e3.at (d3.at c4)
  obtain ⟨s3, CH0, i1, i2, i3, i4, i5, i6, i7⟩ := chs_mk (T := T) e2 hes2 (2 ^ T.1)
  have hpK : Pf sL s3 := ((((a4.tr b4).tr c3).tr d3).tr e3).tr i3
  have hpK2 : Pf f2 s3 := ((c3.tr d3).tr e3).tr i3
  have hwk := wk_run (bx := bL) (T := T) (st := ((own, some bf, es, bgF, enF) : StS)) (Ks := Ks) (ids := ids) (pk := pk) (zn := zn) (nb := nb) (sn := sn) (bf := bf) i2 rfl (hpK2.at b6) hid (fun l kk hk => by
    obtain ⟨z1, q, q', z2, z3, z4, z5, z6, n, s, z7, z8, z9, z10⟩ := h1 l kk hk
    exact ⟨z1, q, z2, z4, hpK.at z5, n, s, z7, z8, hpK.at z9⟩) h2 (2 ^ T.1)
  -- KeygroveModel
  have hpM : Pf tL p2 := a5.tr b5
  obtain ⟨hwm, hwo⟩ := wm_run (cx := cL) (sec := sec) (Ks := Ms) (pk := pk) (zn := zn) (nb := nb) (sn := sn) (bf := bf') b3.2.1 bO b7 (by omega) (fun l kk hk => by
    obtain ⟨z1, q, q', z2, z3, z4, z5, z6, n, s, z7, z8, z9, z10⟩ := h1 l kk hk
    exact ⟨q', z3, hpM.at z6, hpM.at z10⟩) (2 ^ T.1)
  generalize hW : wlK T ((own, some bf, es, bgF, enF) : StS) Ks ids (s3, bL) (2 ^ T.1) = W at *
  generalize hX : wlM sec pk Ms bf' (p2, cL) (2 ^ T.1) = X at *
  obtain ⟨w1, w2, w3, w4, w5, bW, w6, w7, w8⟩ := hwk
  obtain ⟨x1, x2, x3, x4, x5, bX, x6, x7, x8⟩ := hwm
  obtain ⟨p4, es', j1, j2, j3, j4, j5, j6, j7, j8⟩ := fm_1 x1 (KN.i1 (l := 4) (x2.at b7))
  have hb7l := b7.lt
  have jO := j8 hwo ⟨by show bf' < 1000; omega, Or.inl (by decide)⟩
  have hj4l := j4.lt
  obtain ⟨r1, on', k1, k2, k3, k4, k5, k6, k7, k8⟩ := fm_1 j2 (KN.i1 (l := 5) j4)
  have kO := k8 jO ⟨by show es' < 1000; omega, Or.inl (by decide)⟩
  obtain ⟨r2, ky', m1, m2, m3, m4, m5, m6, m7, m8⟩ := fm_1 k2 (KN.i1 (l := 6) (k3.at j4))
  have mO := m8 kO ⟨by show es' < 1000; omega, Or.inl (by decide)⟩
  have hes3 := m3.at (k3.at j4)
  obtain ⟨tF, DH, n1_, n2_, nO, n3_, n4_, n5_, n6_, n7_⟩ := chm_mk (T := U) m2 mO (by omega) hes3 (2 ^ T.1) hp4.2
  -- the two sides
  have hUT : ∀ l, U.2.1 (2 * l) ≠ none ↔ T.2.2.2 l ≠ none := fun l => by rw [Ne, Ne, ← (hQ.2.1 (2 * l)).no, ← hI.2.1 l]
  have hSF : SqS W.1 tF := by
    refine ⟨w1, n2_, by rw [w3, i4, e6, d6, c6, b3.2.2.1, n4_, m6, k6, j6, x3], fun n => ?_⟩
    rw [w5, i6, e5, d5, c5, n6_, m5, k5, j5, x5, b3.2.2.2]
    have ec : (∃ l, l < 2 ^ T.1 ∧ U.2.1 (2 * l) ≠ none ∧ n = n1 (n1 nb 4) (100 + l)) ↔ ∃ l, l < 2 ^ T.1 ∧ T.2.2.2 l ≠ none ∧ n = n1 (n1 nb 4) (100 + l) := by
      constructor
      · rintro ⟨l, z1, z2, z3⟩; exact ⟨l, z1, (hUT l).mp z2, z3⟩
      · rintro ⟨l, z1, z2, z3⟩; exact ⟨l, z1, (hUT l).mpr z2, z3⟩
    rw [ec]
    constructor
    · rintro (((((z | z) | z) | z) | z) | z) <;> simp [z]
    · rintro (((((z | z) | z) | z) | z) | z) <;> simp [z]
  have hesW : At W.1 es (n1 nb 4) := w2.at (i3.at hes2)
  have honW : At W.1 on (n1 (n1 nb 4) 5) := w2.at (i3.at (e3.at d4))
  have hkyW : At W.1 ky (n1 (n1 nb 4) 6) := w2.at (i3.at e4)
  have hbfW : At W.1 bf nb := w2.at (hpK2.at b6)
  have honX : At tF on' (n1 (n1 nb 4) 5) := n3_.at (m3.at k4)
  have hkyX : At tF ky' (n1 (n1 nb 4) 6) := n3_.at m4
  have hDl : ∀ l, T.2.2.2 l ≠ none → l < 2 ^ T.1 := fun l hl => lf_of hI hl
  have hES : EpS W.1 tF T ((own, some bf, es, bgF, enF) : StS) ((0, U, on', ky', DH, fun _ => false, fun _ => false, fun _ => none) : MeS) (n1 nb 4) := by
    refine ⟨hesW, honX, hkyX, fun l hl => (n7_ l).2 fun z => z.2 ?_, fun l hl => (n7_ l).1 ⟨hDl l hl, (hUT l).mpr hl⟩⟩
    exact Classical.not_not.mp fun w => (hUT l).mp w hl
  obtain ⟨CH, q1, q2, q3, q4⟩ := chs_q hSF hI hES
  have hpW : Pf sL W.1 := hpK.tr w2
  have hpX : Pf tL tF := (((hpM.tr x2).tr j3).tr k3).tr (m3.tr n3_)
  have hu1W := (((b4.tr hpK2).tr w2).at a6)
  refine ⟨f1, u1, f2, bf, f3, es, g1, on, g2, ky, s3, CH0, W, CH, p1, v1, p2, bf', X, p4, es', r1, on', r2, ky', tF, DH, ⟨a1, b1, c1, d1, e1, i1, hW, frm_s (fnd_1 w1 hesW honW), frm_s (fnd_1 w1 hesW hkyW), q1⟩, ⟨a2, b2, hX, j1, k1, m1, n1_⟩, ⟨hSF, nO, hpW, (a4.tr b4).tr c3, hpX, ?_, ⟨bW, w6, by omega⟩, ⟨bX, x6⟩, by omega, hu1W.lt⟩, ⟨hu1W.mem, hbfW, hES⟩, ⟨_, honW, honX⟩, ⟨_, hkyW, hkyX⟩, q2, q3, q4⟩
  rw [w6, x6]
  exact (hB.up hpW hpX).app (w8.bq (x8.up (((j3.tr k3).tr m3).tr n3_)))
