set_option maxRecDepth 100000
/-! ===== a commit: the relation holds ===== -/
def eNw (Ep : MeS) (V : LmS) (on' ky' : Nat) (DH : Nat → Option Nat) (rm2 : Nat → Bool) (pk : Nat → Option Nat) : MeS := (eNo Ep + 1, V.1, on', ky', DH, V.2.2.2.2, rm2, pk)
def rNw (C : KsS) (r : PeS) (E : Nat → Bool) (L : LyS) (on ky : Nat) (CH : Nat → Option ChS) : PeS := (pNo r, E, pPk r, some (zTs C).length, pLf r, drpF L.1 L.2.2.2.2.1, on, ky, CH, none)
def qNw (q : MpS) (lsn : Nat) (E : MeS) : MpS := comR (getR ((mEp q, mLf q, lsn, mRn q, mNd q, mCh q, mEv q) : MpS) E 0) E
/-- packages, from before to after -/
def KcQ (T1 : TrS) (rm2 : Nat → Bool) (ids : List Nat) (Ks Ls : List PkS) : Prop := LQ (fun k a c => c.1 = a.1 ∧ c.2.1 = a.2.1 ∧ c.2.2.1 = a.2.2.1 ∧ (k ∉ ids → c.2.2.2.1 = a.2.2.2.1 ∧ c.2.2.2.2.1 = a.2.2.2.2.1 ∧ (c.2.2.2.2.2 = true → a.2.2.2.2.2 = true ∧ ∀ l, rm2 l = true → T1.2.2.2 l ≠ some a.1)) ∧ (k ∈ ids → ¬ a.2.2.2.1 = true)) Ks Ls
theorem kc_of {T1 : TrS} {rm2 : Nat → Bool} {ids : List Nat} {Ks Ks2 Ks3 : List PkS} (h1 : KdQ T1 rm2 Ks Ks2) (h2 : LQ (fun x q p => p.1 = q.1 ∧ p.2.1 = q.2.1 ∧ p.2.2.1 = q.2.2.1 ∧ (x ∈ ids → ¬ q.2.2.2.1 = true) ∧ (x ∉ ids → p = q)) Ks2 Ks3) : KcQ T1 rm2 ids Ks Ks3 := by
  refine ⟨h1.1.trans h2.1, fun k a c ha hc => ?_⟩
  obtain ⟨b, hb, a1, a2, a3, a4, a5, a6⟩ := h1.l ha
  obtain ⟨b1, b2, b3, b4, b5⟩ := h2.2 k b c hb hc
  refine ⟨by rw [b1, a1], by rw [b2, a2], by rw [b3, a3], fun hn => ?_, fun hi => by rw [← a4]; exact b4 hi⟩
  rw [b5 hn]; exact ⟨a4, a5, a6⟩
theorem pks_sub {C : KsS} {D : MdS} (h : Inv C D) {T1 : TrS} {rm2 : Nat → Bool} {Ks2 : List PkS} {Ms2 : List MkS} (h1 : KdQ T1 rm2 (zKs C) Ks2) (h2 : LQ (fun _ => PkQ (zSs C) (dSs D)) Ks2 Ms2) (j k : Nat) (hk : k ∈ pksM Ms2 j) : k ∈ pksM (dKs D) j := by
  obtain ⟨m, hm, m1, m2⟩ := pksM_m.mp hk
  obtain ⟨q2, hq2, hP2⟩ := h2.r hm
  obtain ⟨q, hq, a1, a2, a3, a4, a5, a6⟩ := h1.r hq2
  obtain ⟨m0, hm0, hP⟩ := h.kk.l hq
  refine pksM_m.mpr ⟨m0, hm0, by rw [← hP.1, ← a1, hP2.1]; exact m1, fun z => m2 ?_⟩
  have hu := hP.2.2.2.2.2 z
  cases e : m.2.2.2.2 with
  | true => rfl
  | false =>
    exfalso
    have ho : q2.2.2.2.2.2 = true := by
      rw [hP2.2.2.2.2.1, e, ← hP2.2.2.2.1, a4, hP.2.2.2.1, hu]; rfl
    have := (a6 ho).1
    rw [hP.2.2.2.2.1, z, hu] at this
    simp at this
theorem cm_i {C : KsS} {D : MdS} (h : Inv C D) (hC : KsB C) {i : Nat} {r : PeS} {q : MpS} (hr : (zPs C)[i]? = some r) (hq : (dPs D)[i]? = some q) {T : TrS} {Ep : MeS} {e : Nat} {T1 U1 T2 : TrS} {Ps2 : List PeS} {Ks2 : List PkS} {U2 : TrS} {rm2 : Nat → Bool} {Ms2 : List MkS} {T4 : TrS} {Ks3 : List PkS} {fr : Nat} {ids : List Nat} {U4 : TrS} {Ms3 : List MkS} {pk : Nat → Option Nat} {y : Nm} {L : LyS} {V : LmS} (hA : CmA C D i r q T Ep e T1 U1 T2 Ps2 Ks2 U2 rm2 Ms2 T4 Ks3 fr ids U4 Ms3 pk) (hL : CmL C D i r q T4 fr pk U4 y L V)
    {x0 : Nm} {s0 : StS} {bf es on ky : Nat} {W X : BxS} {CH : Nat → Option ChS} {on' ky' : Nat} {tF : List Sec} {DH : Nat → Option Nat} (hs0 : (zSt C)[e]? = some s0 ∧ At (zSs C) s0.2.2.1 x0)
    (hR : SqS W.1 tF ∧ SsOk tF ∧ Pf L.2.1 W.1 ∧ Pf V.2.1 tF ∧ Bq W.1 tF W.2 X.2 ∧ (∃ b, W.2 = L.2.2.1 ++ b ∧ b.length ≤ 16) ∧ (∃ c, X.2 = V.2.2.1 ++ c))
    (hN : n1 (pthN L.1 (pLf r) y T4.1) 2 ∈ nms W.1 ∧ At W.1 bf (n2 (n1 x0 5) (n1 (pthN L.1 (pLf r) y T4.1) 2) 3) ∧ EpS W.1 tF L.1 ((pLf r, some bf, es, L.2.2.2.2.2.1, L.2.2.2.2.2.2) : StS) ((0, V.1, on', ky', DH, fun _ => false, fun _ => false, fun _ => none) : MeS) (n1 (n2 (n1 x0 5) (n1 (pthN L.1 (pLf r) y T4.1) 2) 3) 4))
    (hT5 : Nq W.1 tF on on' ∧ Nq W.1 tF ky ky' ∧ (∀ l, (CH l = none ∧ (if l < 16 then (DH l).map fun s => ((s, 0, []) : McS) else none) = none) ∨ ∃ c d, CH l = some c ∧ (if l < 16 then (DH l).map fun s => ((s, 0, []) : McS) else none) = some d ∧ ChQ W.1 tF c d) ∧ (∀ l, CH l = none ↔ L.1.2.2.2 l = none) ∧ ∀ l c, CH l = some c → c.2.1 = 0)
    (hO : T4.2.2.2 (pLf r) = some i ∧ ¬ rm2 (pLf r) = true ∧ pk (pLf r) = none ∧ mLf q = pLf r) :
    ∃ lsn, V.1.2.1 (2 * mLf q) = some lsn ∧ lof L.1 (pNo r) = some (pLf r) ∧ NtB Ms3 (dEs D ++ [eNw Ep V on' ky' DH rm2 pk]) ((dPs D).set i (qNw q lsn (eNw Ep V on' ky' DH rm2 pk))) tF.length (dMs D).length ∧ ∀ (E : Nat → Bool) (Qs : List MpS), (∀ y, E y = true ↔ pEv r y = true ∨ helP Ks3 (rNw C r (pEv r) L on ky CH) y) → NtR Ms3 (dEs D ++ [eNw Ep V on' ky' DH rm2 pk]) ((dPs D).set i (qNw q lsn (eNw Ep V on' ky' DH rm2 pk))) Qs ((dPs D).set i (qNw q lsn (eNw Ep V on' ky' DH rm2 pk))).length →
      Inv (W.1, W.2, lcg (zZz C), Ps2.set i (rNw C r E L on ky CH), Ks3, [], zTs C ++ [L.1], zSt C ++ [((pLf r, some bf, es, L.2.2.2.2.2.1, L.2.2.2.2.2.2) : StS)], zMs C, zSo C, zBn C + (W.2.length - (zBx C).length)) (tF, X.2, Ms3, Qs, [], dEs D ++ [eNw Ep V on' ky' DH rm2 pk], dMs D, dSo D, 0, lcg (dZz D), dBn D + (X.2.length - (dBx D).length), dCm D + 1) := by
  obtain ⟨⟨c1, c2, c3, c4, c5, c6, c7, c8, c9⟩, ⟨d1, d2, d3, d4⟩, ⟨e1, e2, e3, e4, e5, e6, e7, e8, e9, e10⟩, ⟨f1, f2, f3⟩, -, -, -⟩ := hA
  obtain ⟨l1, l2, l3, l4, -⟩ := hL
  obtain ⟨g1, g2, g3, g4, g5, g6, g7, g8, g9, g10⟩ := f3
  have g2 : St T1 T4 rm2 pk := g2
  have g3 : LQ (fun _ => PkQ (zSs C) (dSs D)) Ks3 Ms3 := g3
  have g4 : ∀ j, pksM Ms3 j = pksM Ms2 j := g4
  obtain ⟨⟨m1, m2, m3, m4⟩, ⟨m5, ⟨bL, m6⟩, ⟨cL, m7⟩⟩, ⟨n1_, n2_, n3_, n4_⟩, n5_, n6_, ⟨n7_, n8_⟩, n9_, o1, o2, o3, o4, o5⟩ := l3
  obtain ⟨hSF, hOF, pfK, pfM, hBF, ⟨bW, w6, -⟩, ⟨bX, x6⟩⟩ := hR
  obtain ⟨hN1, hN2, hN3⟩ := hN
  obtain ⟨t1, t2, t3, t4, t5⟩ := hT5
  obtain ⟨h4o, hro, hpo, hlf⟩ := hO
  obtain ⟨⟨hw, hev, hnd⟩, hrn, hch, hhe⟩ := h.2.2.2.2.2.2.2.2.2.2.1.2 i r q hr hq
  obtain ⟨T', Ep', p1, p2, p3, p4, p5, p6, p7, p8, p9, -⟩ := id c9
  have hTe : (zTs C)[e]? = some T := by rw [show e = (zTs C).length - 1 by omega]; exact c1
  rw [hTe] at p1; cases p1
  have hdl := h.ln.2.2.2.1
  have hEe : (dEs D)[e]? = some Ep := by rw [show e = (dEs D).length - 1 by omega]; exact c2
  rw [hEe] at p2; cases p2
  have hI4 : TrI T4 := g2.1
  have hp4 := p2_4 n2_.1
  have hI1 := n2_.1
  have hTo : L.1.2.2.2 (pLf r) = some i := by rw [n4_]; exact h4o
  have ho2 : pLf r < 2 ^ L.1.1 := lf_of n2_ (by rw [hTo]; simp)
  have hkc := kc_of e7 g10
  have hpf : Pf (zSs C) W.1 := (Pf.snoc.tr m3).tr pfK
  have hpg : Pf (dSs D) tF := (Pf.snoc.tr m4).tr pfM
  have hTQ : TrQ W.1 tF L.1 V.1 := n1_.up pfK pfM
  have hST : StE T L.1 ((pLf r, some bf, es, L.2.2.2.2.2.1, L.2.2.2.2.2.2) : StS) (eNw Ep V on' ky' DH rm2 pk) := cm_StE rfl d4 g2 n2_ n3_ n4_ n5_ n6_ c7 hro rfl rfl o1
  have hSB : StB W.1 W.2 L.1 ((pLf r, some bf, es, L.2.2.2.2.2.1, L.2.2.2.2.2.2) : StS) (eNw Ep V on' ky' DH rm2 pk) := by
    rw [w6]
    exact StB.up pfK (cm_StB (pk := pk) rfl g5 n3_ o3)
  have hSP : StP W.1 x0 L.1 ((pLf r, some bf, es, L.2.2.2.2.2.1, L.2.2.2.2.2.2) : StS) (n1 (n2 (n1 x0 5) (n1 (pthN L.1 (pLf r) y T4.1) 2) 3) 4) := by
    refine ⟨y, n2 (n1 x0 5) (n1 (pthN L.1 (pLf r) y T4.1) 2) 3, bf, fun m z hm hz => pfK.at (n9_ m z (by rw [← n3_]; exact hm) hz), ?_, rfl, hN2, by rw [n3_], rfl⟩
    rw [n3_]; exact hN1
  have hHJ := cm_HJ n2_ n3_ ho2 p5 n5_ n6_ o2
  have h31 : ∀ n, 31 ≤ n → mNd q n = none := by
    intro n hn
    rcases Nat.eq_zero_or_pos (lev n) with z1 | z1
    · exact p7 n z1
    · refine (p6 n z1).no.mp ?_
      rw [p5 n, if_neg]
      rintro ⟨-, z2, -⟩
      have := nd_31 c5.1 z2
      omega
  obtain ⟨lx, lsn, hlx, hls, hlq⟩ := ch_leaf n2_ hTQ hTo
  have hcM := cm_M (q := ((mEp q, mLf q, lsn, mRn q, mNd q, mCh q, mEv q) : MpS)) (E := eNw Ep V on' ky' DH rm2 pk) n2_ n3_ ho2 p5 hTQ hlf (fun n hn => (p6 n hn).no) p7 h31 o1 o2
  have heno : eNo Ep + 1 = (zTs C).length := by rw [c8.1]; exact c4
  have hpg9 := hw.1
  have hlo : lof L.1 (pNo r) = some (pLf r) := by rw [hpg9]; exact lof_q n2_ hTo
  -- the persons
  have hTn : (zTs C ++ [L.1])[(zTs C).length]? = some L.1 := by rw [List.getElem?_append_right (Nat.le_refl _), Nat.sub_self]; rfl
  have hEn : (dEs D ++ [eNw Ep V on' ky' DH rm2 pk])[(zTs C).length]? = some (eNw Ep V on' ky' DH rm2 pk) := by rw [← hdl, List.getElem?_append_right (Nat.le_refl _), Nat.sub_self]; rfl
  have hlate : ∀ l, l < 16 → ∀ k, ¬ hsB (L.1.2.2.1 (2 * l)) k = true := fun l hl k => late_lf n2_ hl k
  have hHl : drpF L.1 L.2.2.2.2.1 (2 * pLf r) = some lx := by rw [hHJ (2 * pLf r), if_pos ⟨cvr_lf (by omega), by omega, hlate _ (by omega) _⟩, hlx]
  have hpw : ∀ E, PeW W.1 tF (zTs C ++ [L.1]) (dEs D ++ [eNw Ep V on' ky' DH rm2 pk]) Ms3 i (rNw C r E L on ky CH) (qNw q lsn (eNw Ep V on' ky' DH rm2 pk)) := by
    intro E
    refine ⟨hpg9, ?_, Or.inl ⟨rfl, rfl⟩, ?_, fun z => (by cases z), fun e2 z => ?_⟩
    · show some (eNo Ep + 1) = some (zTs C).length; rw [heno]
    · show pPk r = _
      rw [g4, e9]; exact hw.2.2.2.1
    · cases z
      refine ⟨L.1, eNw Ep V on' ky' DH rm2 pk, hTn, hEn, hTo, hlf, hHJ, hcM.1, hcM.2, ?_, t1, t2, t3, t4⟩
      show Oq _ _ (drpF L.1 L.2.2.2.2.1 (2 * pLf r)) (some lsn)
      rw [hHl]; exact Or.inr ⟨lx, lsn, rfl, rfl, hlq⟩
  have hTs : ∀ T ∈ zTs C ++ [L.1], TrI T := by
    intro T hT
    rcases List.mem_append.mp hT with z | z
    · exact h.tr T z
    · rw [List.mem_singleton.mp z]; exact n2_
  have hKF : LQ (fun _ => PkQ W.1 tF) Ks3 Ms3 := g3.imp fun k a b _ _ z => z.up hpf hpg
  have hbk : ∀ (j : Nat) (s' : PeS), Ps2[j]? = some s' → ∃ s, (zPs C)[j]? = some s ∧ s' = ((pNo s, pEv s, pksM Ms2 j, pEp s, pLf s, pNd s, pOn s, pKy s, pCh s, pRn s) : PeS) := by
    intro j s' hs
    obtain ⟨s, h1, h2⟩ := e6.r hs
    exact ⟨s, h1, h2⟩
  have hps : ∀ E : Nat → Bool, (∀ y, E y = true ↔ pEv r y = true ∨ helP Ks3 (rNw C r (pEv r) L on ky CH) y) → LQ (fun j s z => PeW W.1 tF (zTs C ++ [L.1]) (dEs D ++ [eNw Ep V on' ky' DH rm2 pk]) Ms3 j s z ∧ evOk W.1 tF Ks3 s z) (Ps2.set i (rNw C r E L on ky CH)) ((dPs D).set i (qNw q lsn (eNw Ep V on' ky' DH rm2 pk))) := by
    intro E hE
    refine LQ.set ⟨by rw [← h.ln.1.symm]; exact e6.1.symm, fun j s' z hs' hz => ?_⟩ ⟨hpw E, hnd, _, hev.up hpf hpg, hE⟩
    obtain ⟨s, hs, rfl⟩ := hbk j s' hs'
    obtain ⟨⟨y1, y2, y3⟩, -, -, y4⟩ := h.2.2.2.2.2.2.2.2.2.2.1.2 j s z hs hz
    obtain ⟨v1, v2, v3, v4, v5, v6⟩ := y1.up hpf hpg
    refine ⟨⟨v1, v2, v3, ?_, v5, fun e he => PeI.grow _ _ (v6 e he)⟩, evOk.old (y2.up hpf hpg) y3 fun x hx => y4 x ?_⟩
    · show pksM Ms2 j = _; rw [g4]
    · rcases hx with ⟨k, hk, p, hp, hx⟩ | hx
      · have hk2 := pks_sub h e7 e5 j k hk
        obtain ⟨a, ha, a1, a2, a3, -⟩ := hkc.r hp
        refine Or.inl ⟨k, by rw [y1.2.2.2.1]; exact hk2, a, ha, ?_⟩
        rw [← a2, ← a3]; exact hx
      · exact Or.inr hx
  have hchl : ∀ E, ChL C (rNw C r E L on ky CH) := by
    intro E l c hc
    have hc : CH l = some c := hc
    rw [t5 l c hc]; exact Nat.zero_le _
  refine ⟨lsn, by rw [hlf]; exact hls, hlo, ?_, fun E Qs hE hNR => ?_⟩
  · obtain ⟨E, hE⟩ := cl_bool fun y => pEv r y = true ∨ helP Ks3 (rNw C r (pEv r) L on ky CH) y
    refine ntb_of hKF hTs (hps E hE) fun r9 hr9 l c hc => ?_
    rw [← h.ms.1]
    obtain ⟨k, hk⟩ := List.getElem?_of_mem hr9
    rcases set_cases hk with ⟨-, rfl⟩ | ⟨-, z⟩
    · exact hchl E l c hc
    · obtain ⟨s, hs, rfl⟩ := hbk k r9 z
      obtain ⟨q9, -, -, -, w, -⟩ := h.2.2.2.2.2.2.2.2.2.2.1.l hs
      exact w l c hc
  have hps2 := nt_q hKF hTs hNR (hps E hE)
  have hPsl : (Ps2.set i (rNw C r E L on ky CH)).length = (zPs C).length := by rw [List.length_set]; exact e6.1.symm
  have hper : ∀ (j : Nat) (s : PeS), (zPs C)[j]? = some s → j ≠ i → ∃ s', (Ps2.set i (rNw C r E L on ky CH))[j]? = some s' ∧ s' = ((pNo s, pEv s, pksM Ms2 j, pEp s, pLf s, pNd s, pOn s, pKy s, pCh s, pRn s) : PeS) := by
    intro j s hs hj
    obtain ⟨s', h1, h2⟩ := e6.l hs
    exact ⟨s', by rw [List.getElem?_set_ne (Ne.symm hj)]; exact h1, h2⟩
  have hP1 := d4.2.2.1
  -- leaves of the new tree
  have hlv : ∀ l p, L.1.2.2.2 l = some p → p < (zPs C).length := by
    intro l p hl
    cases e9 : pk l with
    | none =>
      have := hST.2.2.2.2.2.2.2.1 l p hl e9
      exact h.tp hTe this
    | some x =>
      obtain ⟨z, z1, z2, -, -, -, -, ⟨s, z3, -⟩, -⟩ := g9 l x e9
      rw [n4_] at hl
      have z2 : T4.2.2.2 l = some z.1 := z2
      rw [hl] at z2
      rw [Option.some.inj z2]; exact get_lt2 z3
  -- leaves' secrets
  have hlsec : ∀ l p, T.2.2.2 l = some p → L.1.2.2.2 l = some p → l ≠ pLf r → L.1.2.1 (2 * l) = T.2.1 (2 * l) ∨ ∃ x, (2, l, x) ∈ zRs C ∧ L.1.2.1 (2 * l) = some x := by
    intro l p h0 h1 hne
    obtain ⟨-, oo, -⟩ := ly_ov n2_ n3_ ho2 n5_ n6_
    rw [oo l, if_neg hne]
    have h4 := g2.2.2.1 l p (by rw [hP1]; exact h0) (by rw [← n4_]; exact h1)
    rw [h4]
    rcases d4.2.2.2.2 l with z | ⟨x, z1, z2, -⟩
    · exact Or.inl z
    · exact Or.inr ⟨x, z1, z2⟩
  have hrnw : ∀ l x, (2, l, x) ∈ zRs C → ∃ p s, T.2.2.2 l = some p ∧ (zPs C)[p]? = some s ∧ isF (zTs C).length (pEp s) = true ∧ pRn s = some x := by
    intro l x hm
    obtain ⟨k, hk⟩ := List.getElem?_of_mem hm
    obtain ⟨p, hp, -⟩ := h.2.2.2.2.2.2.2.1.l hk
    obtain ⟨-, -, s, o, a1, a2, a3, a4, a5, a6, a7⟩ := pr_rn h c1 hk hp rfl
    exact ⟨p.2.1, s, a7, a1, a3, a6⟩
  have hids : ∀ k, k ∈ ids → ∃ l z, pk l = some k ∧ Ks3[k]? = some z ∧ L.1.2.2.2 l = some z.1 ∧ L.1.2.1 (2 * l) = some z.2.1 ∧ z.2.2.2.1 = true ∧ z.2.2.2.2.1 = some (zTs C).length ∧ z.2.2.2.2.2 = true ∧ (∃ s, (zPs C)[z.1]? = some s ∧ pEp s = none) := by
    intro k hk
    obtain ⟨l, hl⟩ := (g6 k).mp hk
    obtain ⟨z, z1, z2, z3, z4, z5, z6, z7, -⟩ := g9 l k hl
    have z2 : T4.2.2.2 l = some z.1 := z2
    refine ⟨l, z, hl, z1, by rw [n4_]; exact z2, ?_, z4, z5, z6, z7⟩
    obtain ⟨-, oo, -⟩ := ly_ov n2_ n3_ ho2 n5_ n6_
    rw [oo l, if_neg]
    · exact z3
    · intro w
      have hl : pk l = some k := hl
      rw [w, hpo] at hl; cases hl
  have hPk := h.2.2.2.2.2.2.2.2.2.2.2.2.2.2.1
  have hRo := h.2.2.2.2.2.2.2.2.2.2.2.2.2.2.2.2.1
  have hCm := h.2.2.2.2.2.2.2.2.2.2.2.2.2.2.2.2.2
  have hEl := h.2.2.2.2.2.2.2.2.1
  have hStl := h.2.2.2.2.2.2.2.2.2.1
  have hPl := h.2.2.2.2.2.2.2.2.2.2.1
  have hopn : ∀ (k : Nat) (c : PkS), Ks3[k]? = some c → c.2.2.2.2.2 = true → k ∉ ids → ∃ a e E l s, (zKs C)[k]? = some a ∧ c.1 = a.1 ∧ c.2.1 = a.2.1 ∧ a.2.2.2.2.2 = true ∧ c.2.2.2.2.1 = some e ∧ a.2.2.2.2.1 = some e ∧ (dEs D)[e]? = some E ∧ ePk E l = some k ∧ (zPs C)[a.1]? = some s ∧ pEp s = none ∧ (∀ (j : Nat) (T : TrS), e ≤ j → (zTs C)[j]? = some T → T.2.2.2 l = some a.1) ∧ L.1.2.2.2 l = some a.1 ∧ T.2.2.2 l = some a.1 := by
    intro k c hc ho hn
    obtain ⟨a, ha, a1, a2, a3, a4, -⟩ := hkc.r hc
    obtain ⟨b1, b2, b3⟩ := a4 hn
    obtain ⟨b4, b5⟩ := b3 ho
    obtain ⟨e9, E9, l, s, z1, z2, z3, z4, z5, z6⟩ := hPk.2.1 k a ha b4
    have hTl : T.2.2.2 l = some a.1 := z6 e T (by have := get_lt2 z2; omega) hTe
    refine ⟨a, e9, E9, l, s, ha, a1, a2, b4, by rw [b2]; exact z1, z1, z2, z3, z4, z5, z6, hST.2.2.2.2.2.2.1 l _ hTl fun w => ?_, hTl⟩
    exact b5 l w (by rw [hP1]; exact hTl)
  refine ⟨hSF, hOF, congrArg lcg h.2.2.1, ?_, ?_, hBF, hKF, LQ.nil, ?_, ?_, ?_, ?_, h.so.up hpf hpg, h.2.2.2.2.2.2.2.2.2.2.2.2.2.1, ?_, ?_, ?_, ?_⟩
  · show zBn C + (W.2.length - (zBx C).length) = dBn D + (X.2.length - (dBx D).length)
    rw [h.2.2.2.1, hBF.1, h.bq.1]
  · show dCm D + 1 = (zTs C ++ [L.1]).length - 1
    rw [h.2.2.2.2.1, List.length_append]
    show _ = (zTs C).length + 1 - 1
    omega
  · show LQ _ (zTs C ++ [L.1]) (dEs D ++ [eNw Ep V on' ky' DH rm2 pk])
    have hbx : W.2 = zBx C ++ (bL ++ bW) := by rw [w6, m6, List.append_assoc]
    refine LQ.snoc (hEl.imp fun k Tk E9 hTk _ z => EpQ.up (C := C) (D := D) (C2 := (W.1, W.2, lcg (zZz C), Ps2.set i (rNw C r E L on ky CH), Ks3, [], zTs C ++ [L.1], zSt C ++ [((pLf r, some bf, es, L.2.2.2.2.2.1, L.2.2.2.2.2.2) : StS)], zMs C, zSo C, zBn C + (W.2.length - (zBx C).length))) (D2 := (tF, X.2, Ms3, Qs, [], dEs D ++ [eNw Ep V on' ky' DH rm2 pk], dMs D, dSo D, 0, lcg (dZz D), dBn D + (X.2.length - (dBx D).length), dCm D + 1)) hpf hpg hbx rfl rfl rfl (by show _ ≤ (Ps2.set i _).length; rw [hPsl]; exact Nat.le_refl _) hStl hEl.1.symm hTk z) ?_
    refine ⟨heno, ⟨n2_, fun l p hl => by show p < (Ps2.set i _).length; rw [hPsl]; exact hlv l p hl⟩, hTQ, _, _, ?_, hN3, fun e9 T9 s9 E9 he hT9 hs9 hE9 => ?_⟩
    · show (zSt C ++ [_])[(zTs C).length]? = _
      rw [← hStl, List.getElem?_append_right (Nat.le_refl _), Nat.sub_self]; rfl
    · have he9 : e9 = e := by omega
      subst he9
      have hT9 : (zTs C ++ [L.1])[e9]? = some T9 := hT9
      have hs9 : (zSt C ++ [_])[e9]? = some s9 := hs9
      have hT9 := get_app2 (get_lt2 hTe) hT9
      rw [hTe] at hT9; cases hT9
      have hs9 := get_app2 (get_lt2 hs0.1) hs9
      rw [hs0.1] at hs9; cases hs9
      exact ⟨x0, hpf.at hs0.2, hSP, hSB, hST⟩
  · show (zSt C ++ [_]).length = (zTs C ++ [_]).length
    rw [List.length_append, List.length_append, hStl]; rfl
  · refine hps2.imp fun k s m hs hm z => ?_
    rcases set_cases hs with ⟨rfl, rfl⟩ | ⟨y9, hs2⟩
    · refine ⟨z.1, fun e9 he => ⟨fun n T9 T8 hn h9 h8 _ => ?_, fun _ x => ⟨(fun w => by cases w), fun w => ?_⟩⟩, hchl E, z.2⟩
      · have he : some (zTs C).length = some e9 := he
        have he := Option.some.inj he
        have h8 : (zTs C ++ [L.1])[n + 1]? = some T8 := h8
        have := get_lt2 h8
        rw [List.length_append, List.length_singleton] at this
        omega
      · have w : _ ∈ ([] : List PrS) := w
        cases w
    · obtain ⟨s9, hs9, rfl⟩ := hbk k s hs2
      obtain ⟨m2', -, ⟨hw9, -, -⟩, w1, w2, -⟩ := hPl.l hs9
      refine ⟨z.1, fun e9 he => ⟨fun n T9 T8 hn h9 h8 hl8 => ?_, fun hl x => ?_⟩, w2, z.2⟩
      · have he : pEp s9 = some e9 := he
        have h9 : (zTs C ++ [L.1])[n]? = some T9 := h9
        have h8 : (zTs C ++ [L.1])[n + 1]? = some T8 := h8
        show T8.2.1 (2 * pLf s9) = T9.2.1 (2 * pLf s9) ∨ (n = e9 ∧ T8.2.1 (2 * pLf s9) = pRn s9)
        have hl8 : T8.2.2.2 (pLf s9) = some k := hl8
        rcases snoc_at h8 with ⟨q1, q2⟩ | ⟨q1, rfl⟩
        · exact (w1 e9 he).1 n T9 T8 hn (get_app2 (by omega) h9) q2 hl8
        · have h9 := get_app2 (by omega) h9
          rw [show n = e by omega, hTe] at h9
          cases h9
          have hn2 : n = e := by omega
          -- the person was there
          obtain ⟨T7, Ep7, v1, v2, v3, -⟩ := hw9.2.2.2.2.2 e9 he
          have hT0 : T.2.2.2 (pLf s9) = some k := by
            cases e5 : pk (pLf s9) with
            | none => exact hST.2.2.2.2.2.2.2.1 _ k hl8 e5
            | some x =>
              obtain ⟨zz, z1, z2, -, -, -, -, ⟨s8, z3, z4⟩, -⟩ := g9 _ x e5
              have z2 : T4.2.2.2 (pLf s9) = some zz.1 := z2
              rw [← n4_, hl8] at z2
              rw [← Option.some.inj z2, hs9] at z3
              cases z3
              rw [he] at z4; cases z4
          have hne : pLf s9 ≠ pLf r := by
            intro w
            rw [w, hTo] at hl8
            exact y9 (Option.some.inj hl8).symm
          rcases hlsec _ k hT0 hl8 hne with w | ⟨x, w3, w4⟩
          · exact Or.inl w
          · obtain ⟨p, s8, u1, u2, u3, u4⟩ := hrnw _ x w3
            rw [hT0] at u1
            rw [← Option.some.inj u1, hs9] at u2
            cases u2
            obtain ⟨e7', he7, hel7⟩ := isF_ln u3
            rw [he] at he7; cases he7
            exact Or.inr ⟨by omega, by rw [w4, u4]⟩
      · have he : pEp s9 = some e9 := he
        obtain ⟨T7, Ep7, v1, -⟩ := hw9.2.2.2.2.2 e9 he
        have := get_lt2 v1
        have hl : e9 + 1 = (zTs C ++ [L.1]).length := hl
        rw [List.length_append, List.length_singleton] at hl
        omega
  · exact h.ms.imp fun k m p _ _ z => ⟨z.1, z.2.1, z.2.2.1, z.2.2.2.1.up hpf hpg, z.2.2.2.2.1, by
      obtain ⟨T9, hT9, hne⟩ := z.2.2.2.2.2
      exact ⟨T9, get_app hT9, hne⟩⟩
  · refine ⟨fun e9 E9 l k hE9 hk => ?_, fun k c hc ho => ?_, fun k c k' c' hc hc' ho ho' hcc => ?_, fun c hc => ?_⟩
    · have hE9 : (dEs D ++ [eNw Ep V on' ky' DH rm2 pk])[e9]? = some E9 := hE9
      rcases snoc_at hE9 with ⟨q1, q2⟩ | ⟨q1, rfl⟩
      · obtain ⟨a, T9, z1, z2, z3, z4, z5, z6, z7⟩ := hPk.1 e9 E9 l k q2 hk
        obtain ⟨c, hc, a1, a2, a3, a4, a5⟩ := hkc.l z1
        have hn : k ∉ ids := fun w => a5 w z3
        obtain ⟨b1, b2, -⟩ := a4 hn
        exact ⟨c, T9, hc, get_app z2, by rw [b1]; exact z3, by rw [b2]; exact z4, by rw [a1]; exact z5, by rw [a2]; exact z6, z7⟩
      · have hk : pk l = some k := hk
        obtain ⟨z, z1, z2, z3, z4, z5, z6, z7, -⟩ := g9 l k hk
        obtain ⟨-, oo, -⟩ := ly_ov n2_ n3_ ho2 n5_ n6_
        have z2 : T4.2.2.2 l = some z.1 := z2
        refine ⟨z, L.1, z1, by rw [q1, hdl]; exact hTn, z4, by rw [q1, hdl]; exact z5, by rw [n4_]; exact z2, ?_, by omega⟩
        rw [oo l, if_neg]
        · exact z3
        · intro w
          rw [w, hpo] at hk; cases hk
    · by_cases hn : k ∈ ids
      · obtain ⟨l, z, z1, z2, z3, z4, z5, z6, z7, s, z8, z9⟩ := hids k hn
        have hc : Ks3[k]? = some c := hc
        rw [hc] at z2; cases z2
        have hci : c.1 ≠ i := fun w => by rw [w, hr] at z8; cases z8; rw [c3] at z9; cases z9
        obtain ⟨s', h1, h2⟩ := hper c.1 s z8 hci
        refine ⟨(zTs C).length, eNw Ep V on' ky' DH rm2 pk, l, s', z6, hEn, z1, h1, by rw [h2]; exact z9, fun j T9 hj hT9 => ?_⟩
        have hT9 : (zTs C ++ [L.1])[j]? = some T9 := hT9
        rcases snoc_at hT9 with ⟨q1, -⟩ | ⟨-, rfl⟩
        · omega
        · exact z3
      · obtain ⟨a, e9, E9, l, s, ha, a1, a2, a3, a4, a5, a6, a7, a8, a9, b1, b2, b3⟩ := hopn k c hc ho hn
        have hai : a.1 ≠ i := fun w => by rw [w, hr] at a8; cases a8; rw [c3] at a9; cases a9
        obtain ⟨s', h1, h2⟩ := hper a.1 s a8 hai
        refine ⟨e9, E9, l, s', a4, get_app a6, a7, by rw [a1]; exact h1, by rw [h2]; exact a9, fun j T9 hj hT9 => ?_⟩
        have hT9 : (zTs C ++ [L.1])[j]? = some T9 := hT9
        rw [a1]
        rcases snoc_at hT9 with ⟨-, q2⟩ | ⟨-, rfl⟩
        · exact b1 j T9 hj q2
        · exact b2
    · have hc : Ks3[k]? = some c := hc
      have hc' : Ks3[k']? = some c' := hc'
      by_cases hn : k ∈ ids
      · obtain ⟨l, z, z1, z2, z3, -⟩ := hids k hn
        rw [hc] at z2; cases z2
        by_cases hn' : k' ∈ ids
        · obtain ⟨l', z', z1', z2', z3', -⟩ := hids k' hn'
          rw [hc'] at z2'; cases z2'
          have : l = l' := n2_.2.2.2.1 l l' c.1 z3 (by rw [hcc]; exact z3')
          rw [this, z1'] at z1
          exact (Option.some.inj z1).symm
        · obtain ⟨a, e9, E9, l', s, ha, a1, a2, a3, a4, a5, a6, a7, a8, a9, b1, b2, b3⟩ := hopn k' c' hc' ho' hn'
          exfalso
          have z1 : ePk (eNw Ep V on' ky' DH rm2 pk) l ≠ none := by show pk l ≠ none; rw [z1]; simp
          exact hST.2.2.2.2.2.2.2.2.2.1 l c.1 z1 z3 l' (by rw [hcc, a1]; exact b3)
      · obtain ⟨a, e9, E9, l', s, ha, a1, a2, a3, a4, a5, a6, a7, a8, a9, b1, b2, b3⟩ := hopn k c hc ho hn
        by_cases hn' : k' ∈ ids
        · obtain ⟨l, z, z1, z2, z3, -⟩ := hids k' hn'
          rw [hc'] at z2; cases z2
          exfalso
          have z1 : ePk (eNw Ep V on' ky' DH rm2 pk) l ≠ none := by show pk l ≠ none; rw [z1]; simp
          exact hST.2.2.2.2.2.2.2.2.2.1 l c'.1 z1 z3 l' (by rw [← hcc, a1]; exact b3)
        · obtain ⟨a', -, -, -, -, ha', a1', -, a3', -⟩ := hopn k' c' hc' ho' hn'
          exact hPk.2.2.1 k a k' a' ha ha' a3 a3' (by rw [← a1, ← a1', hcc])
    · show c.1 < (Ps2.set i _).length
      rw [hPsl]
      have hc : c ∈ Ks3 := hc
      obtain ⟨k, hk⟩ := List.getElem?_of_mem hc
      obtain ⟨a, ha, a1, -⟩ := hkc.r hk
      rw [a1]; exact hPk.2.2.2 a (List.mem_of_getElem? ha)
  · refine ⟨fun j k q p _ hq => ?_, fun j k q p _ hq => ?_, fun j k q p a b _ hq => ?_⟩ <;>
    · have hq : ([] : List PrS)[j]? = some q := hq
      cases hq
  · intro j c a k T9 T8 l hc ho ha hk h9 h8 hl9 hl8
    have hc : Ks3[j]? = some c := hc
    have h9 : (zTs C ++ [L.1])[k]? = some T9 := h9
    have h8 : (zTs C ++ [L.1])[k + 1]? = some T8 := h8
    have hk1 : k + 1 ≤ (zTs C).length := by
      have := get_lt2 h8
      rw [List.length_append, List.length_singleton] at this
      omega
    by_cases hn : j ∈ ids
    · obtain ⟨l', z, z1, z2, z3, z4, z5, z6, -⟩ := hids j hn
      rw [hc] at z2; cases z2
      rw [ha] at z6
      have := Option.some.inj z6
      omega
    · obtain ⟨a', e9, E9, l', s, ha', a1, a2, a3, a4, a5, a6, a7, a8, a9, b1, b2, b3⟩ := hopn j c hc ho hn
      rw [a4] at ha
      have hea := Option.some.inj ha
      rw [a1] at hl9 hl8
      have h9 := get_app2 (by omega) h9
      rcases snoc_at h8 with ⟨-, q2⟩ | ⟨q1, rfl⟩
      · exact hRo j a' e9 k T9 T8 l ha' a3 a5 (by omega) h9 q2 hl9 hl8
      · rw [show k = e by omega, hTe] at h9
        cases h9
        have hne : l ≠ pLf r := by
          intro w
          rw [w, c7] at hl9
          rw [← Option.some.inj hl9, hr] at a8
          cases a8
          rw [c3] at a9; cases a9
        rcases hlsec l _ hl9 hl8 hne with w | ⟨x, w3, w4⟩
        · exact w
        · obtain ⟨p, s8, u1, u2, u3, u4⟩ := hrnw _ x w3
          rw [hl9] at u1
          rw [← Option.some.inj u1, a8] at u2
          cases u2
          rw [a9] at u3; exact absurd u3 isF_n
  · intro j s k s9 T9 hs hs9 hT9 hc9
    have hs9 : (zSt C ++ [((pLf r, some bf, es, L.2.2.2.2.2.1, L.2.2.2.2.2.2) : StS)])[k]? = some s9 := hs9
    have hT9 : (zTs C ++ [L.1])[k]? = some T9 := hT9
    have hnew : ∀ (x : Nat) (c : PkS) (a : Nat), Ks3[x]? = some c → c.2.2.2.2.2 = true → c.1 = j → c.2.2.2.2.1 = some a → (∀ (x : Nat) (c : PkS) (a : Nat), (zKs C)[x]? = some c → c.2.2.2.2.2 = true → c.1 = j → c.2.2.2.2.1 = some a → k < a) → k < (zTs C).length → k < a := by
      intro x c a hc ho hcj ha hold hkl
      by_cases hn : x ∈ ids
      · obtain ⟨l', z, z1, z2, z3, z4, z5, z6, -⟩ := hids x hn
        rw [hc] at z2; cases z2
        rw [ha] at z6
        rw [Option.some.inj z6]; exact hkl
      · obtain ⟨a', e9, E9, l', s, ha', a1, a2, a3, a4, a5, -⟩ := hopn x c hc ho hn
        rw [a4] at ha
        exact hold x a' a ha' a3 (by rw [← a1]; exact hcj) (by rw [a5]; exact ha)
    rcases snoc_at hT9 with ⟨q1, q2⟩ | ⟨q1, rfl⟩
    · have hs99 := get_app2 (by rw [hStl]; exact q1) hs9
      rcases set_cases hs with ⟨rfl, rfl⟩ | ⟨y9, hs2⟩
      · obtain ⟨z1, z2⟩ := hCm j r k s9 T9 hr hs99 q2 hc9
        refine ⟨fun e9 he => ?_, fun x c a hc ho hcj ha => hnew x c a hc ho hcj ha z2 q1⟩
        have he : some (zTs C).length = some e9 := he
        have := Option.some.inj he
        omega
      · obtain ⟨s8, hs8, rfl⟩ := hbk j s hs2
        obtain ⟨z1, z2⟩ := hCm j s8 k s9 T9 hs8 hs99 q2 hc9
        exact ⟨z1, fun x c a hc ho hcj ha => hnew x c a hc ho hcj ha z2 q1⟩
    · have hs9' : s9.1 = pLf r := by
        rw [q1, ← hStl, List.getElem?_append_right (Nat.le_refl _), Nat.sub_self] at hs9
        cases hs9; rfl
      rw [hs9', hTo] at hc9
      have hji := Option.some.inj hc9
      subst hji
      rcases set_cases hs with ⟨-, rfl⟩ | ⟨y9, -⟩
      · refine ⟨fun e9 he => ?_, fun x c a hc ho hcj ha => ?_⟩
        · have he : some (zTs C).length = some e9 := he
          have := Option.some.inj he
          omega
        · exfalso
          have hc : Ks3[x]? = some c := hc
          by_cases hn : x ∈ ids
          · obtain ⟨l', z, z1, z2, z3, z4, z5, z6, z7, s8, z8, z9⟩ := hids x hn
            rw [hc] at z2; cases z2
            rw [hcj, hr] at z8
            cases z8
            rw [c3] at z9; cases z9
          · obtain ⟨a', e9, E9, l', s8, ha', a1, a2, a3, a4, a5, a6, a7, a8, a9, -⟩ := hopn x c hc ho hn
            rw [← a1, hcj, hr] at a8
            cases a8
            rw [c3] at a9; cases a9
      · exact absurd rfl y9
