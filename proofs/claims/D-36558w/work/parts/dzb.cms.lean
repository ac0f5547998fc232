set_option maxRecDepth 100000
/-! ===== a commit: its secrets ===== -/
/-- Keygrove's secrets behind the lays -/
def CmK (own : Nat) (r : PeS) (T4 : TrS) (Ks3 : List PkS) (ids : List Nat) (L : LyS) (f1 : List Sec) (u1 : Nat) (f2 : List Sec) (bf : Nat) (f3 : List Sec) (es : Nat) (g1 : List Sec) (on : Nat) (g2 : List Sec) (ky : Nat) (c1 : List Sec) (CH0 : Nat → Option ChS) (W : BxS) (CH : Nat → Option ChS) : Prop :=
  frm L.2.1 (L.2.2.2.1, none, 2) = (f1, u1) ∧ frm f1 (pOn r, some u1, 3) = (f2, bf) ∧ frm f2 (bf, none, 4) = (f3, es) ∧ frm f3 (es, none, 5) = (g1, on) ∧ frm g1 (es, none, 6) = (g2, ky) ∧ chS L.1 es g2 (2 ^ L.1.1) = (c1, CH0) ∧ wlK L.1 ((own, some bf, es, L.2.2.2.2.2.1, L.2.2.2.2.2.2) : StS) Ks3 ids (c1, L.2.2.1) (2 ^ L.1.1) = W ∧ frm W.1 (es, none, 5) = (W.1, on) ∧ frm W.1 (es, none, 6) = (W.1, ky) ∧ chS L.1 es W.1 (2 ^ L.1.1) = (W.1, CH)
/-- KeygroveModel's -/
def CmM (Ep : MeS) (Ms3 : List MkS) (pk : Nat → Option Nat) (sec : Nat → Nat) (V : LmS) (p1 : List Sec) (v1 : Nat) (p2 : List Sec) (bf' : Nat) (X : BxS) (p4 : List Sec) (es' : Nat) (r1 : List Sec) (on' : Nat) (r2 : List Sec) (ky' : Nat) (tF : List Sec) (DH : Nat → Option Nat) : Prop :=
  frm V.2.1 (V.2.2.2.1, none, 2) = (p1, v1) ∧ frm p1 (eGo Ep, some v1, 3) = (p2, bf') ∧ wlM sec pk Ms3 bf' (p2, V.2.2.1) (2 ^ V.1.1) = X ∧ frm X.1 (bf', none, 4) = (p4, es') ∧ frm p4 (es', none, 5) = (r1, on') ∧ frm r1 (es', none, 6) = (r2, ky') ∧ chM V.1 es' r2 (2 ^ V.1.1) = (tF, DH)
theorem cm_s {C : KsS} {D : MdS} (h : Inv C D) (hC : KsB C) {i : Nat} {r : PeS} {q : MpS} (hr : (zPs C)[i]? = some r) (hq : (dPs D)[i]? = some q) (hnr : ¬ rmB (zRs C) (pLf r) = true) {T : TrS} {Ep : MeS} {e : Nat} {T1 U1 T2 : TrS} {Ps2 : List PeS} {Ks2 : List PkS} {U2 : TrS} {rm2 : Nat → Bool} {Ms2 : List MkS} {T4 : TrS} {Ks3 : List PkS} {fr : Nat} {ids : List Nat} {U4 : TrS} {Ms3 : List MkS} {pk : Nat → Option Nat} {y : Nm} {L : LyS} {V : LmS} (hA : CmA C D i r q T Ep e T1 U1 T2 Ps2 Ks2 U2 rm2 Ms2 T4 Ks3 fr ids U4 Ms3 pk) (hL : CmL C D i r q T4 fr pk U4 y L V) :
    ∃ x0 s0 f1 u1 f2 bf f3 es g1 on g2 ky c1 CH0 W CH p1 v1 p2 bf' sec X p4 es' r1 on' r2 ky' tF DH, CmK (pLf r) r T4 Ks3 ids L f1 u1 f2 bf f3 es g1 on g2 ky c1 CH0 W CH ∧ CmM Ep Ms3 pk sec V p1 v1 p2 bf' X p4 es' r1 on' r2 ky' tF DH ∧
      ((zSt C)[e]? = some s0 ∧ At (zSs C) s0.2.2.1 x0) ∧
      (SqS W.1 tF ∧ SsOk tF ∧ Pf L.2.1 W.1 ∧ Pf L.2.1 f3 ∧ Pf V.2.1 tF ∧ Bq W.1 tF W.2 X.2 ∧ (∃ b, W.2 = L.2.2.1 ++ b ∧ b.length ≤ 16) ∧ (∃ c, X.2 = V.2.2.1 ++ c) ∧ W.1.length ≤ L.2.1.length + 13 + tkN L.1 (2 ^ L.1.1) ∧ u1 < W.1.length) ∧
      (n1 (pthN L.1 (pLf r) y T4.1) 2 ∈ nms W.1 ∧ At W.1 bf (n2 (n1 x0 5) (n1 (pthN L.1 (pLf r) y T4.1) 2) 3) ∧ EpS W.1 tF L.1 ((pLf r, some bf, es, L.2.2.2.2.2.1, L.2.2.2.2.2.2) : StS) ((0, V.1, on', ky', DH, fun _ => false, fun _ => false, fun _ => none) : MeS) (n1 (n2 (n1 x0 5) (n1 (pthN L.1 (pLf r) y T4.1) 2) 3) 4)) ∧
      (Nq W.1 tF on on' ∧ Nq W.1 tF ky ky' ∧ (∀ l, (CH l = none ∧ (if l < 16 then (DH l).map fun s => ((s, 0, []) : McS) else none) = none) ∨ ∃ c d, CH l = some c ∧ (if l < 16 then (DH l).map fun s => ((s, 0, []) : McS) else none) = some d ∧ ChQ W.1 tF c d) ∧ (∀ l, CH l = none ↔ L.1.2.2.2 l = none) ∧ ∀ l c, CH l = some c → c.2.1 = 0) ∧
      (∀ l kk, pk l = some kk → ∃ q m n s, Ks3[kk]? = some q ∧ L.1.2.2.2 l = some q.1 ∧ m < T4.1 ∧ l / 2 ^ (m + 1) = pLf r / 2 ^ (m + 1) ∧ l / 2 ^ m ≠ pLf r / 2 ^ m ∧ n = nab (pLf r) (m + 1) ∧ mtg L.1 (pLf r) l = some n ∧ L.1.2.1 n = some s ∧ V.1.2.1 n = some (sec l) ∧ s < L.2.1.length ∧ sec l < V.2.1.length) ∧
      (T4.2.2.2 (pLf r) = some i ∧ ¬ rm2 (pLf r) = true ∧ pk (pLf r) = none ∧ mLf q = pLf r) := by
  obtain ⟨⟨c1, c2, c3, c4, c5, c6, c7, c8, c9⟩, ⟨d1, d2, d3, d4⟩, ⟨e1, e2, e3, e4, e5, e6, e7, e8, e9, e10⟩, ⟨f1, f2, f3⟩, -, -, -⟩ := hA
  obtain ⟨l1, l2, l3, l4, -⟩ := hL
  obtain ⟨g1, g2, g3, g4, g5, g6, g7, g8, g9, g10⟩ := f3
  obtain ⟨⟨m1, m2, m3, m4⟩, ⟨m5, ⟨bL, m6⟩, ⟨cL, m7⟩⟩, ⟨n1_, n2_, n3_, n4_⟩, n5_, n6_, ⟨n7_, n8_⟩, n9_, o1, o2, o3, o4, o5⟩ := l3
  obtain ⟨T', Ep', p1, p2, p3, p4, p5, p6, p7, p8, p9, -⟩ := id c9
  have hTe : (zTs C)[e]? = some T := by rw [show e = (zTs C).length - 1 by omega]; exact c1
  rw [hTe] at p1; cases p1
  have hdl := h.ln.2.2.2.1
  have hEe : (dEs D)[e]? = some Ep := by rw [show e = (dEs D).length - 1 by omega]; exact c2
  rw [hEe] at p2; cases p2
  have hro : ¬ rm2 (pLf r) = true := by
    intro z
    obtain ⟨j, a, -, a2, a3, a4⟩ := (e8 _).mp z
    refine hnr ?_
    unfold rmB
    rw [List.any_eq_true]
    exact ⟨a, List.mem_of_getElem? a2, by simp [a3, a4]⟩
  have h1o : T1.2.2.2 (pLf r) = some i := by rw [d4.2.2.1]; exact c7
  have h4o : T4.2.2.2 (pLf r) = some i := g2.2.2.2.2.1 _ i h1o hro
  have hpo : pk (pLf r) = none := by
    cases e9 : pk (pLf r) with
    | none => rfl
    | some z => exact absurd h1o (g2.2.2.2.2.2.2.1 (pLf r) i (by show pk (pLf r) ≠ none; rw [e9]; simp) h4o (pLf r))
  have hI4 : TrI T4 := g2.1
  have hp4 := p2_4 n2_.1
  have hI1 := n2_.1
  have ho2 : pLf r < 2 ^ L.1.1 := lf_of n2_ (by rw [n4_, h4o]; simp)
  have ho16 : pLf r < 16 := by omega
  obtain ⟨-, -, -, s0, x0, hs0, ⟨hEa, hEb, -⟩, -⟩ := id c8
  have hC1 := hC.1
  have hsl : (zSs C ++ [drw (zZz C)]).length = (zSs C).length + 1 := by rw [List.length_append]; rfl
  have hcnt := cnt_10 hI4 (nab (pLf r) T4.1)
  have hLl : L.2.1.length ≤ 950 := by omega
  -- where those who are new meet
  have hmt : ∀ l kk, pk l = some kk → ∃ q m s w, Ks3[kk]? = some q ∧ L.1.2.2.2 l = some q.1 ∧ m < T4.1 ∧ l / 2 ^ (m + 1) = pLf r / 2 ^ (m + 1) ∧ l / 2 ^ m ≠ pLf r / 2 ^ m ∧ mtg L.1 (pLf r) l = some (nab (pLf r) (m + 1)) ∧ L.1.2.1 (nab (pLf r) (m + 1)) = some s ∧ V.1.2.1 (nab (pLf r) (m + 1)) = some w ∧ Nq L.2.1 V.2.1 s w := by
    intro l kk hk
    obtain ⟨z, z1, z2, z3, -⟩ := g9 l kk hk
    have hlP : L.1.2.2.2 l = some z.1 := by rw [n4_]; exact z2
    have hl2 := lf_of n2_ (l := l) (by rw [hlP]; simp)
    have hne : l ≠ pLf r := fun w => by rw [w, hpo] at hk; cases hk
    obtain ⟨m, hm, hm1, hm2⟩ := meet_at hl2 ho2 hne
    have hnn := (o3 m (by omega)).1 ⟨l, by rw [hlP]; simp, (cvr_nab ho16 (by omega) (by omega)).mpr hm1, fun w => hm2 ((cvr_nab ho16 (by omega) (by omega)).mp w)⟩
    rcases n1_.2.1 (nab (pLf r) (m + 1)) with ⟨w1, -⟩ | ⟨s, w, w1, w2, w3⟩
    · exact absurd w1 hnn
    · exact ⟨z, m, s, w, z1, hlP, by omega, hm1, hm2, mtg_at n2_.1 ho2 hl2 hm hm1 hm2 hnn, w1, w2, w3⟩
  obtain ⟨sec, hsec⟩ : ∃ sec : Nat → Nat, ∀ l, sec l = (((mtg L.1 (pLf r) l).bind V.1.2.1).getD 0) := ⟨_, fun _ => rfl⟩
  obtain ⟨sn, hsn⟩ : ∃ sn : Nat → Nm, ∀ l, sn l = nm L.2.1 (((mtg L.1 (pLf r) l).bind L.1.2.1).getD 0) := ⟨_, fun _ => rfl⟩
  obtain ⟨zn, hzn⟩ : ∃ zn : Nat → Nm, ∀ l, zn l = nm (zSs C) ((((pk l).bind fun kk => Ks3[kk]?).map fun q => q.2.2.1).getD 0) := ⟨_, fun _ => rfl⟩
  have hinj : ∀ l m k, pk l = some k → pk m = some k → l = m := by
    intro l m k h1 h2
    obtain ⟨z, z1, z2, -⟩ := g9 l k h1
    obtain ⟨z', z1', z2', -⟩ := g9 m k h2
    rw [z1] at z1'; cases z1'
    exact hI4.2.2.2.1 l m z.1 z2 z2'
  have hcW : cW pk (2 ^ L.1.1) ≤ 8 := by
    have h1 : cW pk (2 ^ L.1.1) ≤ ids.length := cW_b (ids := ids) (fun l k hk => (g6 k).mpr ⟨l, hk⟩) hinj (2 ^ L.1.1)
    have h2 : ids.length ≤ (zRs C).length := g7
    have := hC.2.2.2.2.1
    omega
  have hpfs : Pf (zSs C) L.2.1 := Pf.snoc.tr m3
  have hpfm : Pf (dSs D) V.2.1 := Pf.snoc.tr m4
  obtain ⟨x9, hx1, hx2⟩ := id p9
  have hx0 : x9 = n1 x0 5 := hx2.fn hEb
  subst hx0
  have hcm := cm3 (bL := L.2.2.1) (cL := V.2.2.1) (T := L.1) (U := V.1) (own := pLf r) (fr := fr) (bgF := L.2.2.2.2.2.1) (enF := L.2.2.2.2.2.2) (Ks := Ks3) (Ms := Ms3) (ids := ids) (pk := pk) (sec := sec) (zn := zn) (sn := sn) m1 m2 m5 n2_ n1_ n7_ n8_ (hpfs.at hx1) (hpfm.at hx2) g8 hLl (fun l kk hk => by
    obtain ⟨z, m, s, w, z1, z2, z3, z4, z5, z6, z7, z8, z9⟩ := hmt l kk hk
    obtain ⟨z', hz', hPQ⟩ := g3.l z1
    obtain ⟨na, nb1, nb2⟩ := hPQ.2.2.1
    obtain ⟨nc, nd1, nd2⟩ := id z9
    have en : zn l = na := by
      rw [hzn, hk]
      show nm (zSs C) (((Ks3[kk]?).map fun q => q.2.2.1).getD 0) = na
      rw [z1]; exact nb1.na
    have es_ : sn l = nc := by rw [hsn, z6]; show nm L.2.1 ((L.1.2.1 (nab (pLf r) (m + 1))).getD 0) = nc; rw [z7]; exact nd1.na
    have ew : sec l = w := by rw [hsec, z6]; show (V.1.2.1 (nab (pLf r) (m + 1))).getD 0 = w; rw [z8]; rfl
    exact ⟨(g6 kk).mpr ⟨l, hk⟩, z, z', z1, hz', z2, by rw [en]; exact hpfs.at nb1, by rw [en]; exact hpfm.at nb2, _, s, z6, z7, by rw [es_]; exact nd1, by rw [ew, es_]; exact nd2⟩) (fun l id z hid hz hP => by
    obtain ⟨l', hl'⟩ := (g6 id).mp hid
    obtain ⟨z', z1, z2, -⟩ := g9 l' id hl'
    have hz : Ks3[id]? = some z := hz
    have z1 : Ks3[id]? = some z' := z1
    rw [hz] at z1; cases z1
    rw [n4_] at hP
    rw [hI4.2.2.2.1 l l' z.1 hP z2]; exact hl') hcW
  obtain ⟨F1, u1, F2, bf, F3, es, G1, on, G2, ky, C1, CH0, W, CH, P1, v1, P2, bf', X, P4, es', R1, on', R2, ky', tF, DH, hK, hM, hR, hN, hT1, hT2, hT3, hT4, hT5⟩ := hcm
  have hUd : V.1.1 = L.1.1 := n1_.1.symm
  refine ⟨x0, s0, F1, u1, F2, bf, F3, es, G1, on, G2, ky, C1, CH0, W, CH, P1, v1, P2, bf', sec, X, P4, es', R1, on', R2, ky', tF, DH, hK, ?_, ⟨hs0, hEa⟩, hR, hN, ⟨hT1, hT2, hT3, hT4, hT5⟩, fun l kk hk => ?_, h4o, hro, hpo, p4⟩
  · unfold CmM
    rw [hUd]; exact hM
  · obtain ⟨z, m, s, w, z1, z2, z3, z4, z5, z6, z7, z8, z9⟩ := hmt l kk hk
    have ew : sec l = w := by rw [hsec, z6]; show (V.1.2.1 (nab (pLf r) (m + 1))).getD 0 = w; rw [z8]; rfl
    exact ⟨z, m, _, s, z1, z2, z3, z4, z5, rfl, z6, z7, by rw [ew]; exact z8, z9.lt.1, by rw [ew]; exact z9.lt.2⟩
